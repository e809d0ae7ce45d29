/-! the class: orders of a set are gone through -/
set_option maxRecDepth 100000
section P63
variable {f : Nat → Int32} {g : Nat → Int32 → Int32} {T : TX}
def tmX (f : Nat → Int32) (g : Nat → Int32 → Int32) : Int32 → Int32 → Int32 → List Nat → Int32
  | _, _, time, [] => time
  | at_, tows, time, b :: os => if tows + 1 = f 11 ∨ os = [] then tmX f g 0 0 (time + farI at_ (g 3 (nI b)) * (f 12 + tows) + farI (g 3 (nI b)) 0 * (f 12 + (tows + 1))) os else tmX f g (g 3 (nI b)) (tows + 1) (time + farI at_ (g 3 (nI b)) * (f 12 + tows)) os
theorem tmX_nil (at_ tows time : Int32) : tmX f g at_ tows time [] = time := by unfold tmX; rfl
theorem tmX_y {at_ tows time : Int32} {b : Nat} {os : List Nat} (h : tows + 1 = f 11 ∨ os = []) : tmX f g at_ tows time (b :: os) = tmX f g 0 0 (time + farI at_ (g 3 (nI b)) * (f 12 + tows) + farI (g 3 (nI b)) 0 * (f 12 + (tows + 1))) os := by
  rw [tmX, if_pos h]
theorem tmX_n {at_ tows time : Int32} {b : Nat} {os : List Nat} (h : ¬ (tows + 1 = f 11 ∨ os = [])) : tmX f g at_ tows time (b :: os) = tmX f g (g 3 (nI b)) (tows + 1) (time + farI at_ (g 3 (nI b)) * (f 12 + tows)) os := by
  rw [tmX, if_neg h]
theorem tmX_eq (h11 : ¬ (0 : Int32) = f 11) : ∀ (os : List Nat) (at_ tows time : Int32), os ≠ [] → ¬ tows = f 11 → tmX f g at_ tows time os = tmI f g at_ tows time os := by
  intro os
  induction os with
  | nil => intro _ _ _ h; exact absurd rfl h
  | cons b os ih =>
    intro at_ tows time _ ht
    rw [← tm_b at_ tows time b os ht]
    by_cases ho : os = []
    · subst ho
      rw [tmX_y (Or.inr rfl), tmX_nil]
      rfl
    · by_cases h1 : tows + 1 = f 11
      · rw [tmX_y (Or.inl h1), ih _ _ _ ho h11, tm_h _ _ _ os h1 h11]
      · rw [tmX_n (fun z => z.elim h1 ho), ih _ _ _ ho h1]
theorem tmX_all (h11 : ¬ (0 : Int32) = f 11) (os : List Nat) : tmX f g 0 0 0 os = tmI f g 0 0 0 os := by
  by_cases ho : os = []
  · subst ho
    rw [tmX_nil]
    show (0 : Int32) = 0 + farI 0 0 * (f 12 + 0)
    rw [show farI 0 0 = 0 by decide, Int32.zero_mul]
    rfl
  · exact tmX_eq h11 os 0 0 0 ho h11
theorem far_bd : ∀ a, a < 48 → ∀ b, b < 48 → ∃ j, j < 13 ∧ farI (nI a) (nI b) = nI j := by decide +kernel
theorem tmX_bd {tw : Nat} (h12 : 1 ≤ f 12 ∧ f 12 ≤ 9) (e11 : f 11 = nI tw) (h1 : 1 ≤ tw) (h6 : tw ≤ 6) : ∀ (os : List Nat) (a w t : Nat), a < 48 → w < tw → (∀ b ∈ os, InvB g (nI b)) → t + 400 * os.length ≤ 1000000 → ∃ t', t' ≤ t + 400 * os.length ∧ tmX f g (nI a) (nI w) (nI t) os = nI t' := by
  obtain ⟨sp, hsp, esp⟩ := nI_of2 (M := 9) (n := 9) (by decide) (Int32.not_lt.mpr (Int32.le_trans (by decide) h12.1)) h12.2
  intro os
  induction os with
  | nil => intro a w t _ _ _ _; exact ⟨t, by simp, tmX_nil _ _ _⟩
  | cons b os ih =>
    intro a w t ha hw hB ht
    have hb := hB b (List.mem_cons_self)
    obtain ⟨c, hc, ec⟩ := nI_of2 (M := 47) (n := 47) (by decide) (Int32.not_lt.mpr hb.2.2.2.2.1) hb.2.2.2.2.2.1
    obtain ⟨j1, hj1, e1⟩ := far_bd a ha c (by omega)
    obtain ⟨j2, hj2, e2⟩ := far_bd c (by omega) 0 (by decide)
    have hlen : (b :: os).length = os.length + 1 := rfl
    rw [hlen] at ht
    have m1 : j1 * (sp + w) ≤ 12 * 15 := Nat.mul_le_mul (by omega) (by omega)
    have m2 : j2 * (sp + (w + 1)) ≤ 12 * 16 := Nat.mul_le_mul (by omega) (by omega)
    have t1 : nI t + farI (nI a) (g 3 (nI b)) * (f 12 + nI w) = nI (t + j1 * (sp + w)) := by
      rw [ec, e1, esp, nI_add, nI_mul, nI_add]
    have t2 : nI (t + j1 * (sp + w)) + farI (g 3 (nI b)) 0 * (f 12 + (nI w + 1)) = nI (t + j1 * (sp + w) + j2 * (sp + (w + 1))) := by
      rw [ec, show farI (nI c) 0 = nI j2 from e2, esp, nI_1, nI_add, nI_mul, nI_add]
    by_cases h : nI w + 1 = f 11 ∨ os = []
    · obtain ⟨t', q2, q3⟩ := ih 0 0 (t + j1 * (sp + w) + j2 * (sp + (w + 1))) (by decide) (by omega) (fun x hx => hB x (List.mem_cons_of_mem _ hx)) (by omega)
      refine ⟨t', by rw [hlen]; omega, ?_⟩
      rw [tmX_y h, t1, t2]
      exact q3
    · have hw1 : w + 1 ≠ tw := fun z => h (Or.inl (by rw [e11, nI_1, z]))
      obtain ⟨t', q2, q3⟩ := ih c (w + 1) (t + j1 * (sp + w)) (by omega) (by omega) (fun x hx => hB x (List.mem_cons_of_mem _ hx)) (by omega)
      refine ⟨t', by rw [hlen]; omega, ?_⟩
      rw [tmX_n h, t1, ec, nI_1]
      exact q3
theorem XV.tw (hV : XV f g T) : ∃ tw, 1 ≤ tw ∧ tw ≤ 6 ∧ f 11 = nI tw := by
  obtain ⟨tw, h6, e⟩ := nI_of2 (x := f 11) (M := 6) (n := 6) (by decide) (Int32.not_lt.mpr (Int32.le_trans (by decide) hV.1.2.2.2.2.2.2.2.2.1)) hV.1.2.2.2.2.2.2.2.2.2.1
  refine ⟨tw, ?_, h6, e⟩
  have := hV.1.2.2.2.2.2.2.2.2.1
  rw [e, show (1 : Int32) = nI 1 by decide] at this
  exact (nI_leI (by decide) (by omega)).mp this
theorem XV.n11 (hV : XV f g T) : ¬ (0 : Int32) = f 11 := by
  obtain ⟨tw, h1, h6, e⟩ := hV.tw
  rw [e, show (0 : Int32) = nI 0 by decide, nI_eq (by decide) (by omega)]
  omega
/-- the time of an order of boats -/
theorem tm_all {nb : Nat} (hn : nb ≤ 7) (e0 : f 0 = nI nb) (hV : XV f g T) {pre : List Nat} (hl : pre.length ≤ 7) (hp : ∀ v ∈ pre, v < nb) : ∃ t, t ≤ 2800 ∧ tmI f g 0 0 0 pre = nI t := by
  obtain ⟨tw, h1, h6, e⟩ := hV.tw
  obtain ⟨t, q1, q2⟩ := tmX_bd ⟨hV.1.2.2.2.2.2.2.2.2.2.2.1, hV.1.2.2.2.2.2.2.2.2.2.2.2.1⟩ e h1 h6 pre 0 0 0 (by decide) (by omega) (fun b hb => hV.2.1 _ (bo_nI e0 (hp b hb) hn)) (by omega)
  refine ⟨t, by omega, ?_⟩
  rw [← tmX_all hV.n11]
  exact q2
/-- the best so far: none, or a time with its order -/
def gdX (nb : Nat) (acc : Acc) : Prop := acc = (-1, []) ∨ (∃ t, t ≤ 2800 ∧ acc.1 = nI t)
theorem leaf_x {nb : Nat} {t : Nat} {os : List Nat} {acc : Acc} (ht : t ≤ 2800) (h : gdX nb acc) : leafI (nI t) os acc = (if acc.1 = -1 ∨ nI t < acc.1 then (nI t, os) else acc) := by
  unfold leafI
  rcases h with rfl | ⟨u, hu, e⟩
  · rw [if_neg (fun z => absurd z.1 (by decide)), if_pos (Or.inl rfl)]
  · have hne : ¬ acc.1 = -1 := by
      rw [e]
      intro z
      have : (nI u).toInt = (-1 : Int32).toInt := by rw [z]
      rw [nI_toInt (by omega)] at this
      have e1 : (-1 : Int32).toInt = -1 := rfl
      omega
    have h0 : 0 ≤ acc.1 := by rw [e]; exact Int32.not_lt.mp (nI_pos (by omega))
    by_cases c : nI t < acc.1
    · rw [if_neg (fun z => absurd z.2 (Int32.not_le.mpr c)), if_pos (Or.inr c)]
    · rw [if_pos ⟨h0, Int32.not_lt.mp c⟩, if_neg (fun z => z.elim hne c)]
theorem en_gx {nb : Nat} (hn : nb ≤ 7) (e0 : f 0 = nI nb) (hV : XV f g T) : ∀ (n s : Nat) (pre : List Nat) (acc : Acc), pre.length + n ≤ 7 → (∀ v ∈ pre, v < nb) → gdX nb acc → gdX nb (enI f g nb n s pre acc) := by
  intro n
  induction n with
  | zero =>
    intro s pre acc hl hp hg
    obtain ⟨t, ht, e⟩ := tm_all hn e0 hV (pre := pre) (by omega) hp
    show gdX nb (leafI (tmI f g 0 0 0 pre) pre acc)
    rw [e, leaf_x (nb := nb) ht hg]
    split
    · exact Or.inr ⟨t, ht, rfl⟩
    · exact hg
  | succ n ih =>
    intro s pre acc hl hp hg
    show gdX nb ((List.range nb).foldl _ acc)
    have key : ∀ i, i ≤ nb → gdX nb ((List.range i).foldl (fun acc i => if s / 2 ^ i % 2 = 1 then enI f g nb n (s - 2 ^ i) (pre ++ [i]) acc else acc) acc) := by
      intro i
      induction i with
      | zero => intro _; exact hg
      | succ i ihi =>
        intro hi
        rw [rng_s]
        split
        · refine ih _ _ _ (by simp; omega) (fun v hv => ?_) (ihi (by omega))
          rcases List.mem_append.mp hv with w | w
          · exact hp v w
          · rw [List.mem_singleton.mp w]; omega
        · exact ihi (by omega)
    exact key nb (Nat.le_refl _)
end P63
theorem last_i {i N : Nat} (hi : i < N) (hN : N < 2 ^ 30) (h : nI i = nI N - 1) : i + 1 = N := by
  rw [show (1 : Int32) = nI 1 by decide, nI_subN (by omega) hN, nI_eq (by omega) (by omega)] at h
  omega
theorem last_e {i N : Nat} (hi : i < N) (hN : N < 2 ^ 30) (h : i + 1 = N) : nI i = nI N - 1 := by
  rw [show (1 : Int32) = nI 1 by decide, nI_subN (by omega) hN, show N - 1 = i by omega]
section X63
variable {Γ : Gam} {A : Nat → Prop} {L : Nat → Nat} {f : Nat → Int32} {g : Nat → Int32 → Int32} {T : TX} {P : PH → Prop}
/-- the class's world while orders are gone through -/
def OFs (N : Nat) (acc : Acc) (pre : List Nat) : XD → Prop := fun x => x.p 28 = acc.1 ∧ x.p 27 = nI N ∧ (∀ j v, acc.2[j]? = some v → x.q 26 (nI j) = nI v) ∧ ∀ j v, pre[j]? = some v → x.q 25 (nI j) = nI v
theorem c_XminutesOf {nb N : Nat} {acc : Acc} {pre : List Nat} (hn : nb ≤ 7) (e0 : f 0 = nI nb) (hN : pre.length = N) (h7 : N ≤ 7) (hp : ∀ v ∈ pre, v < nb) : Ct Γ A yX0_minutesOf wX0_minutesOf 2 0 0 [.ref (L 35)] (XI Γ L f g T (OFs N acc pre)) (RI fun r h => r = tmX f g 0 0 0 pre ∧ XI Γ L f g T (OFs N acc pre) h) := by
  refine Ct.of (cc := cX0_minutesOf) (nL := 5) (ret := (some .int)) (ls := [some (.ref (L 35)), none, none, none, none]) rfl rfl rfl (nle rfl) ?_
  intro K hK hQ
  have loop : ∀ (os : List Nat) (i : Nat) (time at_ tows : Int32), pre.drop i = os → i ≤ N → tmX f g at_ tows time os = tmX f g 0 0 0 pre → J Γ A K 9 [some (.ref (L 35)), some (.int time), some (.int at_), some (.int tows), some (.int (nI i))] [] (XI Γ L f g T (OFs N acc pre)) 0 0 := by
    intro os
    induction os with
    | nil =>
      intro i time at_ tows hd hi hq
      have hi2 : N ≤ i := by rw [← hN]; exact List.drop_eq_nil_iff.mp hd
      have : i = N := by omega
      subst this
      rw [tmX_nil] at hq
      refine j_iload (pc := 9) hK dX0_minutesOf_9 rfl ?_
      refine j_aload_n (pc := 11) hK dX0_minutesOf_11 rfl ?_
      refine xi_get (pc := 12) (k := 27) (v := nI i) hK (fun _ w => w) (by decide) rfl (fun _ _ e => e.2.1) q778 rfl dX0_minutesOf_12 ?_
      refine j_icmp_ge (pc := 15) (tgt := 110) hK dX0_minutesOf_15 (by decide) (fun c15 => ?_) (fun c15 => absurd (Int32.le_refl _) c15)
      refine j_iload_n (pc := 110) hK dX0_minutesOf_110 rfl ?_
      exact j_iret (pc := 111) hK hQ (nle rfl) (nle rfl) dX0_minutesOf_111 (fun h w => ⟨_, rfl, hq, w⟩)
    | cons b os ih =>
      intro i time at_ tows hd hi hq
      have hi2 : i < N := by
        rcases Nat.lt_or_ge i N with z | z
        · exact z
        · rw [List.drop_eq_nil_iff.mpr (by omega)] at hd; cases hd
      have hpi : pre[i]? = some b := by
        have := congrArg (fun l => l[0]?) hd
        simpa using this
      have hd2 : pre.drop (i + 1) = os := by
        rw [← List.drop_drop, hd]
        rfl
      have hos : os = [] ↔ i + 1 = N := by
        rw [← hd2, List.drop_eq_nil_iff]
        omega
      have hb : Bo f (nI b) := bo_nI e0 (hp b (List.mem_of_getElem? hpi)) hn
      have hin : vp_in (nI i) 7 := vp_in_nI (by omega) (by decide)
      refine j_iload (pc := 9) hK dX0_minutesOf_9 rfl ?_
      refine j_aload_n (pc := 11) hK dX0_minutesOf_11 rfl ?_
      refine xi_get (pc := 12) (k := 27) (v := nI N) hK (fun _ w => w) (by decide) rfl (fun _ _ e => e.2.1) q778 rfl dX0_minutesOf_12 ?_
      refine j_icmp_ge (pc := 15) (tgt := 110) hK dX0_minutesOf_15 (by decide) (fun c15 => absurd c15 (nI_ge hi2 (by omega))) (fun c15 => ?_)
      refine j_iload_n (pc := 18) hK dX0_minutesOf_18 rfl ?_
      refine j_iload_n (pc := 19) hK dX0_minutesOf_19 rfl ?_
      refine j_aload_n (pc := 20) hK dX0_minutesOf_20 rfl ?_
      refine xi_getR (pc := 21) (k := 1) hK (fun _ w => w) (by decide) rfl q749 rfl dX0_minutesOf_21 ?_
      refine j_aload_n (pc := 24) hK dX0_minutesOf_24 rfl ?_
      refine xi_getR (pc := 25) (k := 25) hK (fun _ w => w) (by decide) rfl q776 rfl dX0_minutesOf_25 ?_
      refine j_iload (pc := 28) hK dX0_minutesOf_28 rfl ?_
      refine xi_ald (pc := 30) (k := 25) (v := nI b) hK (fun _ w => w) rfl (by decide) hin (fun _ _ e => e.2.2.2 i b hpi) dX0_minutesOf_30 ?_
      refine xi_aldB (pc := 31) (k := 1) (n := 3) hK (fun _ w => w) (by decide) rfl rfl rfl rfl hb dX0_minutesOf_31 ?_
      refine j_callS (pc := 32) hK hQ (c_Xfar _ _) cal_X0_far q303 dX0_minutesOf_32 rfl rfl (nle rfl) (nle rfl) (nle rfl) (nle rfl) (kr_i fun r32 => ?_) kx_i
      refine J.pre fun e32 => ?_
      subst e32
      refine j_aload_n (pc := 35) hK dX0_minutesOf_35 rfl ?_
      refine xi_getR (pc := 36) (k := 7) hK (fun _ w => w) (by decide) rfl q756 rfl dX0_minutesOf_36 ?_
      refine j_iconst (pc := 39) (v := 3) hK dX0_minutesOf_39 (by decide) ?_
      refine xi_aldL (pc := 40) (i := 3) (n := 12) hK (fun _ w => w) (by decide) rfl (by decide) dX0_minutesOf_40 ?_
      refine j_iload_n (pc := 41) hK dX0_minutesOf_41 rfl ?_
      refine j_iadd (pc := 42) hK dX0_minutesOf_42 ?_
      refine j_imul (pc := 43) hK dX0_minutesOf_43 ?_
      refine j_iadd (pc := 44) hK dX0_minutesOf_44 ?_
      refine j_ist1 (pc := 45) hK dX0_minutesOf_45 (by decide) rfl ?_
      refine j_aload_n (pc := 46) hK dX0_minutesOf_46 rfl ?_
      refine xi_getR (pc := 47) (k := 1) hK (fun _ w => w) (by decide) rfl q749 rfl dX0_minutesOf_47 ?_
      refine j_aload_n (pc := 50) hK dX0_minutesOf_50 rfl ?_
      refine xi_getR (pc := 51) (k := 25) hK (fun _ w => w) (by decide) rfl q776 rfl dX0_minutesOf_51 ?_
      refine j_iload (pc := 54) hK dX0_minutesOf_54 rfl ?_
      refine xi_ald (pc := 56) (k := 25) (v := nI b) hK (fun _ w => w) rfl (by decide) hin (fun _ _ e => e.2.2.2 i b hpi) dX0_minutesOf_56 ?_
      refine xi_aldB (pc := 57) (k := 1) (n := 3) hK (fun _ w => w) (by decide) rfl rfl rfl rfl hb dX0_minutesOf_57 ?_
      refine j_ist2 (pc := 58) hK dX0_minutesOf_58 (by decide) rfl ?_
      refine j_iinc3 (pc := 59) (v := 1) hK dX0_minutesOf_59 (by decide) rfl (by decide) ?_
      refine j_iload_n (pc := 62) hK dX0_minutesOf_62 rfl ?_
      refine j_aload_n (pc := 63) hK dX0_minutesOf_63 rfl ?_
      refine xi_getR (pc := 64) (k := 7) hK (fun _ w => w) (by decide) rfl q756 rfl dX0_minutesOf_64 ?_
      refine j_iconst (pc := 67) (v := 2) hK dX0_minutesOf_67 (by decide) ?_
      refine xi_aldL (pc := 68) (i := 2) (n := 11) hK (fun _ w => w) (by decide) rfl (by decide) dX0_minutesOf_68 ?_
      refine j_icmp_eq (pc := 69) (tgt := 83) hK dX0_minutesOf_69 (by decide) (fun c69 => ?_) (fun c69 => ?_)
      · have hy : tows + 1 = f 11 ∨ os = [] := by first | exact Or.inl c69 | exact Or.inr (hos.mpr (last_i hi2 (by omega) c80))
        rw [tmX_y hy] at hq
        refine j_iload_n (pc := 83) hK dX0_minutesOf_83 rfl ?_
        refine j_iload_n (pc := 84) hK dX0_minutesOf_84 rfl ?_
        refine j_iconst (pc := 85) (v := 0) hK dX0_minutesOf_85 (by decide) ?_
        refine j_callS (pc := 86) hK hQ (c_Xfar _ _) cal_X0_far q303 dX0_minutesOf_86 rfl rfl (nle rfl) (nle rfl) (nle rfl) (nle rfl) (kr_i fun r86 => ?_) kx_i
        refine J.pre fun e86 => ?_
        subst e86
        refine j_aload_n (pc := 89) hK dX0_minutesOf_89 rfl ?_
        refine xi_getR (pc := 90) (k := 7) hK (fun _ w => w) (by decide) rfl q756 rfl dX0_minutesOf_90 ?_
        refine j_iconst (pc := 93) (v := 3) hK dX0_minutesOf_93 (by decide) ?_
        refine xi_aldL (pc := 94) (i := 3) (n := 12) hK (fun _ w => w) (by decide) rfl (by decide) dX0_minutesOf_94 ?_
        refine j_iload_n (pc := 95) hK dX0_minutesOf_95 rfl ?_
        refine j_iadd (pc := 96) hK dX0_minutesOf_96 ?_
        refine j_imul (pc := 97) hK dX0_minutesOf_97 ?_
        refine j_iadd (pc := 98) hK dX0_minutesOf_98 ?_
        refine j_ist1 (pc := 99) hK dX0_minutesOf_99 (by decide) rfl ?_
        refine j_iconst (pc := 100) (v := 0) hK dX0_minutesOf_100 (by decide) ?_
        refine j_ist2 (pc := 101) hK dX0_minutesOf_101 (by decide) rfl ?_
        refine j_iconst (pc := 102) (v := 0) hK dX0_minutesOf_102 (by decide) ?_
        refine j_ist3 (pc := 103) hK dX0_minutesOf_103 (by decide) rfl ?_
        first | skip | skip
        refine j_iinc4 (pc := 104) (v := 1) hK dX0_minutesOf_104 (by decide) rfl (by decide) ?_
        refine j_goto (pc := 107) (tgt := 9) hK dX0_minutesOf_107 (by decide) ?_
        rw [nI_1]
        first | exact ih (i + 1) _ _ _ hd2 (by omega) hq | exact ih (i + 1) _ _ _ hd2 (by omega) (by rw [← hq, tmX_n (fun z => z.elim c69 (fun y => c80 (last_e hi2 (by omega) (hos.mp y))))])
      · refine j_iload (pc := 72) hK dX0_minutesOf_72 rfl ?_
        refine j_aload_n (pc := 74) hK dX0_minutesOf_74 rfl ?_
        refine xi_get (pc := 75) (k := 27) (v := nI N) hK (fun _ w => w) (by decide) rfl (fun _ _ e => e.2.1) q778 rfl dX0_minutesOf_75 ?_
        refine j_iconst (pc := 78) (v := 1) hK dX0_minutesOf_78 (by decide) ?_
        refine j_isub (pc := 79) hK dX0_minutesOf_79 ?_
        refine j_icmp_ne (pc := 80) (tgt := 104) hK dX0_minutesOf_80 (by decide) (fun c80 => ?_) (fun c80 => ?_)
        · first | skip | skip
          refine j_iinc4 (pc := 104) (v := 1) hK dX0_minutesOf_104 (by decide) rfl (by decide) ?_
          refine j_goto (pc := 107) (tgt := 9) hK dX0_minutesOf_107 (by decide) ?_
          rw [nI_1]
          first | exact ih (i + 1) _ _ _ hd2 (by omega) hq | exact ih (i + 1) _ _ _ hd2 (by omega) (by rw [← hq, tmX_n (fun z => z.elim c69 (fun y => c80 (last_e hi2 (by omega) (hos.mp y))))])
        · have hy : tows + 1 = f 11 ∨ os = [] := by first | exact Or.inl c69 | exact Or.inr (hos.mpr (last_i hi2 (by omega) c80))
          rw [tmX_y hy] at hq
          refine j_iload_n (pc := 83) hK dX0_minutesOf_83 rfl ?_
          refine j_iload_n (pc := 84) hK dX0_minutesOf_84 rfl ?_
          refine j_iconst (pc := 85) (v := 0) hK dX0_minutesOf_85 (by decide) ?_
          refine j_callS (pc := 86) hK hQ (c_Xfar _ _) cal_X0_far q303 dX0_minutesOf_86 rfl rfl (nle rfl) (nle rfl) (nle rfl) (nle rfl) (kr_i fun r86 => ?_) kx_i
          refine J.pre fun e86 => ?_
          subst e86
          refine j_aload_n (pc := 89) hK dX0_minutesOf_89 rfl ?_
          refine xi_getR (pc := 90) (k := 7) hK (fun _ w => w) (by decide) rfl q756 rfl dX0_minutesOf_90 ?_
          refine j_iconst (pc := 93) (v := 3) hK dX0_minutesOf_93 (by decide) ?_
          refine xi_aldL (pc := 94) (i := 3) (n := 12) hK (fun _ w => w) (by decide) rfl (by decide) dX0_minutesOf_94 ?_
          refine j_iload_n (pc := 95) hK dX0_minutesOf_95 rfl ?_
          refine j_iadd (pc := 96) hK dX0_minutesOf_96 ?_
          refine j_imul (pc := 97) hK dX0_minutesOf_97 ?_
          refine j_iadd (pc := 98) hK dX0_minutesOf_98 ?_
          refine j_ist1 (pc := 99) hK dX0_minutesOf_99 (by decide) rfl ?_
          refine j_iconst (pc := 100) (v := 0) hK dX0_minutesOf_100 (by decide) ?_
          refine j_ist2 (pc := 101) hK dX0_minutesOf_101 (by decide) rfl ?_
          refine j_iconst (pc := 102) (v := 0) hK dX0_minutesOf_102 (by decide) ?_
          refine j_ist3 (pc := 103) hK dX0_minutesOf_103 (by decide) rfl ?_
          first | skip | skip
          refine j_iinc4 (pc := 104) (v := 1) hK dX0_minutesOf_104 (by decide) rfl (by decide) ?_
          refine j_goto (pc := 107) (tgt := 9) hK dX0_minutesOf_107 (by decide) ?_
          rw [nI_1]
          first | exact ih (i + 1) _ _ _ hd2 (by omega) hq | exact ih (i + 1) _ _ _ hd2 (by omega) (by rw [← hq, tmX_n (fun z => z.elim c69 (fun y => c80 (last_e hi2 (by omega) (hos.mp y))))])
  refine j_iconst (pc := 0) (v := 0) hK dX0_minutesOf_0 (by decide) ?_
  refine j_ist1 (pc := 1) hK dX0_minutesOf_1 (by decide) rfl ?_
  refine j_iconst (pc := 2) (v := 0) hK dX0_minutesOf_2 (by decide) ?_
  refine j_ist2 (pc := 3) hK dX0_minutesOf_3 (by decide) rfl ?_
  refine j_iconst (pc := 4) (v := 0) hK dX0_minutesOf_4 (by decide) ?_
  refine j_ist3 (pc := 5) hK dX0_minutesOf_5 (by decide) rfl ?_
  refine j_iconst (pc := 6) (v := 0) hK dX0_minutesOf_6 (by decide) ?_
  refine j_ist4 (pc := 7) hK dX0_minutesOf_7 (by decide) rfl ?_
  exact loop pre 0 0 0 0 rfl (by omega) rfl
end X63
