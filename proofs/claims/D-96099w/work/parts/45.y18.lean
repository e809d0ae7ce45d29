/-! the reference reads: part, text -/
set_option maxRecDepth 100000
section S18
variable (t : Nat → Int32) (n : Nat)
def prA (p : Nat) : Nat × Option (List Int32) := (pr t n (12 * n + 12) 0 p 0).getD (0, none)
def ptP (w : List Int32) (p : Nat) : Nat × Option (List Int32) := if isW t n p w then (if isS t n (prA t n (enP t n p)).1 59 ∧ (prA t n (enP t n p)).2.isSome = true then (enP t n (prA t n (enP t n p)).1, (prA t n (enP t n p)).2) else ((prA t n (enP t n p)).1, none)) else (p, none)
/-- where the reading ends, and the three codes -/
def txP : Nat × Option (List Int32 × List Int32 × List Int32) := match ptP t n wPrice 0 with
  | (q, none) => (q, none)
  | (q, some a) => match ptP t n wHears q with
    | (q2, none) => (q2, none)
    | (q2, some b) => match ptP t n wComes q2 with
      | (q3, none) => (q3, none)
      | (q3, some c) => if soP t n q3 = 0 then (q3, some (a, b, c)) else (q3, none)
end S18
def nT (f : Nat → Int32) (T : TX) (x : List Int32 × List Int32 × List Int32) : TX := fun t w => if t = f 17 then (if w = 0 then x.1 else if w = 1 then x.2.1 else x.2.2) else T t w
def oText (f : Nat → Int32) (g : Nat → Int32 → Int32) (T : TX) : R3 × TX := if f 17 = 6 then ((-4, f, g), T) else match txP (tp g) (f 15).toNatClampNeg with
  | (q, none) => ((-100 - nI (frP (tp g) (f 15).toNatClampNeg q), upd f 15 0, g), T)
  | (_, some x) => ((f 17, upd (upd f 15 0) 17 (f 17 + 1), g), nT f T x)
section P18
variable {t : Nat → Int32} {n : Nat}
theorem prA_ok {p : Nat} (hp : p ≤ n) : pr t n (12 * n + 12) 0 p 0 = some (prA t n p) := by
  unfold prA
  cases h : pr t n (12 * n + 12) 0 p 0 with
  | none => exact absurd h (pr_tot _ _ _ _ (by omega) hp (by omega))
  | some x => rfl
theorem prA_ex {p : Nat} (hp : p ≤ n) : ∃ M z, prA t n p = z ∧ pr t n M 0 p 0 = some z := ⟨_, _, rfl, prA_ok hp⟩
theorem pt_bad {w : List Int32} {p q : Nat} {oc : Option (List Int32)} (hw : isW t n p w) (hz : prA t n (enP t n p) = (q, oc)) (h : ¬ (isS t n q 59 ∧ oc.isSome = true)) : (q, none) = ptP t n w p := by
  unfold ptP
  rw [if_pos hw, hz, if_neg h]
theorem pt_good {w : List Int32} {p q : Nat} {c : List Int32} (hw : isW t n p w) (hz : prA t n (enP t n p) = (q, some c)) (h : isS t n q 59) : (enP t n q, some c) = ptP t n w p := by
  unfold ptP
  rw [if_pos hw, hz, if_pos ⟨h, rfl⟩]
theorem pt_no {w : List Int32} {p : Nat} (hw : ¬ isW t n p w) : (p, none) = ptP t n w p := by
  unfold ptP
  rw [if_neg hw]
theorem pt_ok {w : List Int32} {p : Nat} (hp : p ≤ n) : (ptP t n w p).1 ≤ n ∧ ∀ c, (ptP t n w p).2 = some c → p + c.length ≤ (ptP t n w p).1 ∧ dps c 0 = some 1 := by
  unfold ptP
  by_cases hw : isW t n p w
  · rw [if_pos hw]
    have hE := en_le (t := t) hp
    have hF := fr_le (t := t) hp
    obtain ⟨M, z, hz, hM⟩ := prA_ex (t := t) hE.2.1
    have h1 := pr_len _ _ _ _ _ hE.2.1 hM
    have h2 := pr_dps _ _ _ _ _ hE.2.1 hM
    rw [hz]
    obtain ⟨a1, a2, a3⟩ := h1
    by_cases hs : isS t n z.1 59 ∧ z.2.isSome = true
    · rw [if_pos hs]
      have hE2 := en_le (t := t) a2
      have hF2 := fr_le (t := t) a2
      refine ⟨hE2.2.1, fun c hc => ?_⟩
      have := a3 c hc
      exact ⟨by simp only; omega, h2 c hc 0⟩
    · rw [if_neg hs]
      exact ⟨a2, fun c hc => by cases hc⟩
  · rw [if_neg hw]
    exact ⟨hp, fun c hc => by cases hc⟩
end P18
section Y18
variable {Γ : Gam} {A : Nat → Prop} {L : Nat → Nat} {f : Nat → Int32} {g : Nat → Int32 → Int32} {T : TX} {B : Int32 → Int32} {n tx m : Nat} {a v : Nat} {bs c0 : List Int32} {p : Nat}
def bB (B : Int32 → Int32) (i x : Int32) : Int32 → Int32 := fun j => if j = i then x else B j
theorem YPc.beg {f1 : Nat → Int32} {g1 : Nat → Int32 → Int32} {o which : Nat} (h : YPc f g T B c0 o f1 g1) (h17 : f 17 = nI tx) (htx : tx < 6) (hw : which ≤ 3) {x i : Int32} (hi : i = nI (4 * tx + which)) : YPc f g T (bB B i x) c0 o f1 (ug g1 20 i x) := by
  obtain ⟨h1, h2, h3, h4, h5, h6⟩ := h
  have e17 : f1 17 = f 17 := (h1 17 rfl).1
  refine ⟨h1.junkA rfl _ _, ?_, h3, h4, fun i hi => by rw [ug_k g1 _ x (by decide)]; exact h5 i hi, fun j => ?_⟩
  · intro q q1 q2
    obtain ⟨w, a1, a2⟩ := h2 q q1 q2
    obtain ⟨k, hk, rfl⟩ := nI_of (x := q) (Int32.not_lt.mpr q1)
    have hkt : k < tx := by
      have q3 : nI k < f1 17 := q2
      rw [e17, h17] at q3
      exact (nI_ltI hk (by omega)).mp q3
    refine ⟨w, fun z hz => ⟨?_, (a1 z hz).2⟩, fun z hz => ⟨(a2 z hz).1, fun i hi => by rw [ug_k g1 _ x (by decide)]; exact (a2 z hz).2 i hi⟩⟩
    rw [ug_i g1 20 x (fun e => ?_)]
    · exact (a1 z hz).1
    · rw [hi, show (4 : Int32) = nI 4 by decide, pk_mul, nI_add, nI_eq (by omega) (by omega)] at e
      omega
  · unfold bB
    by_cases e : j = i
    · rw [if_pos e, e, ug_s]
    · rw [if_neg e, ug_i g1 20 x e]; exact h6 j
def YBB (Γ : Gam) (L : Nat → Nat) (f : Nat → Int32) (g : Nat → Int32 → Int32) (T : TX) (n : Nat) (p : Nat) (h : PH) : Prop := ∃ B1 c1 o1, YP Γ L f g T n B1 c1 o1 p h
def YQ (Γ : Gam) (L : Nat → Nat) (f : Nat → Int32) (g : Nat → Int32 → Int32) (T : TX) (n : Nat) (B : Int32 → Int32) (c0 : List Int32) : Nat × Option (List Int32) → Outcome → PH → Prop
  | (u, some c) => RI fun r h => r = b2i True ∧ YP Γ L f g T n B (c0 ++ c) 0 u h
  | (u, none) => RI fun r h => r = b2i False ∧ YBB Γ L f g T n u h
theorem c_Ypart (which : Nat) (hw3 : which < 3) (hS : sLs Γ a v bs) (hch : ∀ i, i < bs.length → chI (bs.getD i 0) = bs.getD i 0) (hn : f 15 = nI n) (hn2 : n ≤ 160) (h17 : f 17 = nI tx) (htx : tx < 6) (hp : p ≤ n) (hc0 : c0.length ≤ p) : Ct Γ A yX8_part wX8_part 48 0 0 [.ref (L 40), .ref a, .int (nI which)] (YP Γ L f g T n B c0 0 p) (YQ Γ L f g T n (bB B (nI (4 * tx + which)) (nI c0.length)) c0 (ptP (tp g) n bs p)) := by
  refine Ct.of (cc := cX8_part) (nL := 3) (ret := (some .boolean)) (ls := [some (.ref (L 40)), some (.ref a), some (.int (nI which))]) rfl rfl rfl (nle rfl) ?_
  intro K hK hQ
  have hE := en_le (t := tp g) hp
  have hgen : ∀ x, x = ptP (tp g) n bs p → Kq Γ A K 48 0 0 (some .boolean) (YQ Γ L f g T n (bB B (nI (4 * tx + which)) (nI c0.length)) c0 x) := fun x e => by rw [e]; exact hQ
  clear hQ
  by_cases hw : isW (tp g) n p bs
  · have hgt := en_gt hp (isW_0 hw)
    have hE := en_le (t := tp g) hp
    obtain ⟨M, z, hz, hA⟩ := prA_ex (t := tp g) hE.2.1
    have hl := pr_len _ _ _ _ _ hE.2.1 hA
    match z, hz, hA, hl with
    | (q, oc), hz, hA, hl =>
      have hl1 := hl.2.1
      simp only at hl1
      match oc, hz, hA, hl with
      | none, hz, hA, hl =>
        have hQ := hgen (q, none) (pt_bad hw hz (fun z => by cases z.2))
        have hb : Ct Γ A yX8_any wX8_any 47 0 0 [.ref (L 40)] (YP Γ L f g T n (bB B (nI (4 * tx + which)) (nI c0.length)) c0 0 (enP (tp g) n p)) (RI fun r h => r = b2i False ∧ YB Γ L f g T n (bB B (nI (4 * tx + which)) (nI c0.length)) q h) := (c_Yall hn hn2 h17 htx M M (Nat.le_refl _)).1 (enP (tp g) n p) 0 c0 _ hE.2.1 (by omega) (by omega) hA
        refine j_aload_n (pc := 0) hK dX8_part_0 rfl ?_
        refine j_aload_n (pc := 1) hK dX8_part_1 rfl ?_
        refine j_callV (pc := 2) hK hQ (c_Yis hS hch hn2 hp) cal_X8_is yp_isC q1189 dX8_part_2 rfl rfl (nle rfl) (nle rfl) (nle rfl) (nle rfl) (kr_i fun r2 => ?_) kx_i
        refine J.pre fun e2 => ?_
        subst e2
        refine j_if_ne_b (pc := 5) (tgt := 10) hK dX8_part_5 (by decide) (fun c5 => ?_) (fun c5 => absurd hw c5)
        refine j_aload_n (pc := 10) hK dX8_part_10 rfl ?_
        refine J.mono (fun h w => YP.toN w) ?_
        refine j_callV (pc := 11) hK hQ (c_Ynext hn hn2 hE.2.1) cal_X8_next yn_isC q1174 dX8_part_11 rfl rfl (nle rfl) (nle rfl) (nle rfl) (nle rfl) (kr_v ?_) kx_v
        refine yp_open fun f1 g1 hc ht => ?_
        have ei : 4 * f1 17 + nI which = nI (4 * tx + which) := by rw [(hc.1 17 rfl).1, h17, show (4 : Int32) = nI 4 by decide, pk_mul, nI_add]
        refine j_aload_n (pc := 14) hK dX8_part_14 rfl ?_
        refine y_getR (pc := 15) (k := 20) hK (by decide) rfl q1260 rfl dX8_part_15 ?_
        refine j_iconst (pc := 18) (v := 4) hK dX8_part_18 (by decide) ?_
        refine j_aload_n (pc := 19) hK dX8_part_19 rfl ?_
        refine y_getI (pc := 20) (k := 17) hK (by decide) rfl q1257 rfl dX8_part_20 ?_
        refine j_imul (pc := 23) hK dX8_part_23 ?_
        refine j_iload_n (pc := 24) hK dX8_part_24 rfl ?_
        refine j_iadd (pc := 25) hK dX8_part_25 ?_
        refine j_aload_n (pc := 26) hK dX8_part_26 rfl ?_
        refine y_getI (pc := 27) (k := 21) hK (by decide) rfl q1261 rfl dX8_part_27 ?_
        refine y_ast (pc := 30) (k := 20) hK rfl (by rw [ei]; exact vp_in_nI (show _ < 24 by omega) (by decide)) dX8_part_30 ?_
        refine J.mono (P' := YP Γ L f g T n (bB B (nI (4 * tx + which)) (nI c0.length)) c0 0 (enP (tp g) n p)) (fun h w => ⟨f1, _, w, by rw [ei, hc.2.2.2.1]; exact hc.beg h17 htx (by omega) rfl, ht⟩) ?_
        refine j_aload_n (pc := 31) hK dX8_part_31 rfl ?_
        refine j_callV (pc := 32) hK hQ (hb) cal_X8_any yp_isC q1193 dX8_part_32 rfl rfl (nle rfl) (nle rfl) (nle rfl) (nle rfl) (kr_i fun r32 => ?_) kx_i
        refine J.pre fun e32 => ?_
        subst e32
        refine j_if_eq_b (pc := 35) (tgt := 47) hK dX8_part_35 (by decide) (fun c35 => ?_) (fun c35 => absurd c35 (fun z => z))
        refine j_iconst (pc := 47) (v := 0) hK dX8_part_47 (by decide) ?_
        exact j_bret (pc := 48) hK hQ (nle rfl) (nle rfl) dX8_part_48 (fun h w => ⟨Or.inl rfl, ⟨_, rfl, rfl, _, w⟩⟩)
      | some c, hz, hA, hl =>
        have hb : Ct Γ A yX8_any wX8_any 47 0 0 [.ref (L 40)] (YP Γ L f g T n (bB B (nI (4 * tx + which)) (nI c0.length)) c0 0 (enP (tp g) n p)) (RI fun r h => r = b2i True ∧ YP Γ L f g T n (bB B (nI (4 * tx + which)) (nI c0.length)) (c0 ++ c) 0 q h) := (c_Yall hn hn2 h17 htx M M (Nat.le_refl _)).1 (enP (tp g) n p) 0 c0 _ hE.2.1 (by omega) (by omega) hA
        by_cases hs : isS (tp g) n q 59
        · have hQ := hgen (enP (tp g) n q, some c) (pt_good hw hz hs)
          refine j_aload_n (pc := 0) hK dX8_part_0 rfl ?_
          refine j_aload_n (pc := 1) hK dX8_part_1 rfl ?_
          refine j_callV (pc := 2) hK hQ (c_Yis hS hch hn2 hp) cal_X8_is yp_isC q1189 dX8_part_2 rfl rfl (nle rfl) (nle rfl) (nle rfl) (nle rfl) (kr_i fun r2 => ?_) kx_i
          refine J.pre fun e2 => ?_
          subst e2
          refine j_if_ne_b (pc := 5) (tgt := 10) hK dX8_part_5 (by decide) (fun c5 => ?_) (fun c5 => absurd hw c5)
          refine j_aload_n (pc := 10) hK dX8_part_10 rfl ?_
          refine J.mono (fun h w => YP.toN w) ?_
          refine j_callV (pc := 11) hK hQ (c_Ynext hn hn2 hE.2.1) cal_X8_next yn_isC q1174 dX8_part_11 rfl rfl (nle rfl) (nle rfl) (nle rfl) (nle rfl) (kr_v ?_) kx_v
          refine yp_open fun f1 g1 hc ht => ?_
          have ei : 4 * f1 17 + nI which = nI (4 * tx + which) := by rw [(hc.1 17 rfl).1, h17, show (4 : Int32) = nI 4 by decide, pk_mul, nI_add]
          refine j_aload_n (pc := 14) hK dX8_part_14 rfl ?_
          refine y_getR (pc := 15) (k := 20) hK (by decide) rfl q1260 rfl dX8_part_15 ?_
          refine j_iconst (pc := 18) (v := 4) hK dX8_part_18 (by decide) ?_
          refine j_aload_n (pc := 19) hK dX8_part_19 rfl ?_
          refine y_getI (pc := 20) (k := 17) hK (by decide) rfl q1257 rfl dX8_part_20 ?_
          refine j_imul (pc := 23) hK dX8_part_23 ?_
          refine j_iload_n (pc := 24) hK dX8_part_24 rfl ?_
          refine j_iadd (pc := 25) hK dX8_part_25 ?_
          refine j_aload_n (pc := 26) hK dX8_part_26 rfl ?_
          refine y_getI (pc := 27) (k := 21) hK (by decide) rfl q1261 rfl dX8_part_27 ?_
          refine y_ast (pc := 30) (k := 20) hK rfl (by rw [ei]; exact vp_in_nI (show _ < 24 by omega) (by decide)) dX8_part_30 ?_
          refine J.mono (P' := YP Γ L f g T n (bB B (nI (4 * tx + which)) (nI c0.length)) c0 0 (enP (tp g) n p)) (fun h w => ⟨f1, _, w, by rw [ei, hc.2.2.2.1]; exact hc.beg h17 htx (by omega) rfl, ht⟩) ?_
          refine j_aload_n (pc := 31) hK dX8_part_31 rfl ?_
          refine j_callV (pc := 32) hK hQ (hb) cal_X8_any yp_isC q1193 dX8_part_32 rfl rfl (nle rfl) (nle rfl) (nle rfl) (nle rfl) (kr_i fun r32 => ?_) kx_i
          refine J.pre fun e32 => ?_
          subst e32
          refine j_if_eq_b (pc := 35) (tgt := 47) hK dX8_part_35 (by decide) (fun c35 => absurd trivial c35) (fun c35 => ?_)
          refine j_aload_n (pc := 38) hK dX8_part_38 rfl ?_
          refine j_bipush (pc := 39) (v := 59) hK dX8_part_39 (by decide) ?_
          refine j_callV (pc := 41) hK hQ (c_Yis2 _) cal_X8_is_2 yp_isC q1232 dX8_part_41 rfl rfl (nle rfl) (nle rfl) (nle rfl) (nle rfl) (kr_i fun r41 => ?_) kx_i
          refine J.pre fun e41 => ?_
          subst e41
          refine j_if_ne_b (pc := 44) (tgt := 49) hK dX8_part_44 (by decide) (fun c44 => ?_) (fun c44 => absurd hs c44)
          refine j_aload_n (pc := 49) hK dX8_part_49 rfl ?_
          refine J.mono (fun h w => YP.toN w) ?_
          refine j_callV (pc := 50) hK hQ (c_Ynext hn hn2 (en_le (t := tp g) hl1).2.1) cal_X8_next yn_isC q1174 dX8_part_50 rfl rfl (nle rfl) (nle rfl) (nle rfl) (nle rfl) (kr_v ?_) kx_v
          refine j_iconst (pc := 53) (v := 1) hK dX8_part_53 (by decide) ?_
          exact j_bret (pc := 54) hK hQ (nle rfl) (nle rfl) dX8_part_54 (fun h w => ⟨Or.inr rfl, ⟨_, rfl, rfl, w⟩⟩)
        · have hQ := hgen (q, none) (pt_bad hw hz (fun z => hs z.1))
          refine j_aload_n (pc := 0) hK dX8_part_0 rfl ?_
          refine j_aload_n (pc := 1) hK dX8_part_1 rfl ?_
          refine j_callV (pc := 2) hK hQ (c_Yis hS hch hn2 hp) cal_X8_is yp_isC q1189 dX8_part_2 rfl rfl (nle rfl) (nle rfl) (nle rfl) (nle rfl) (kr_i fun r2 => ?_) kx_i
          refine J.pre fun e2 => ?_
          subst e2
          refine j_if_ne_b (pc := 5) (tgt := 10) hK dX8_part_5 (by decide) (fun c5 => ?_) (fun c5 => absurd hw c5)
          refine j_aload_n (pc := 10) hK dX8_part_10 rfl ?_
          refine J.mono (fun h w => YP.toN w) ?_
          refine j_callV (pc := 11) hK hQ (c_Ynext hn hn2 hE.2.1) cal_X8_next yn_isC q1174 dX8_part_11 rfl rfl (nle rfl) (nle rfl) (nle rfl) (nle rfl) (kr_v ?_) kx_v
          refine yp_open fun f1 g1 hc ht => ?_
          have ei : 4 * f1 17 + nI which = nI (4 * tx + which) := by rw [(hc.1 17 rfl).1, h17, show (4 : Int32) = nI 4 by decide, pk_mul, nI_add]
          refine j_aload_n (pc := 14) hK dX8_part_14 rfl ?_
          refine y_getR (pc := 15) (k := 20) hK (by decide) rfl q1260 rfl dX8_part_15 ?_
          refine j_iconst (pc := 18) (v := 4) hK dX8_part_18 (by decide) ?_
          refine j_aload_n (pc := 19) hK dX8_part_19 rfl ?_
          refine y_getI (pc := 20) (k := 17) hK (by decide) rfl q1257 rfl dX8_part_20 ?_
          refine j_imul (pc := 23) hK dX8_part_23 ?_
          refine j_iload_n (pc := 24) hK dX8_part_24 rfl ?_
          refine j_iadd (pc := 25) hK dX8_part_25 ?_
          refine j_aload_n (pc := 26) hK dX8_part_26 rfl ?_
          refine y_getI (pc := 27) (k := 21) hK (by decide) rfl q1261 rfl dX8_part_27 ?_
          refine y_ast (pc := 30) (k := 20) hK rfl (by rw [ei]; exact vp_in_nI (show _ < 24 by omega) (by decide)) dX8_part_30 ?_
          refine J.mono (P' := YP Γ L f g T n (bB B (nI (4 * tx + which)) (nI c0.length)) c0 0 (enP (tp g) n p)) (fun h w => ⟨f1, _, w, by rw [ei, hc.2.2.2.1]; exact hc.beg h17 htx (by omega) rfl, ht⟩) ?_
          refine j_aload_n (pc := 31) hK dX8_part_31 rfl ?_
          refine j_callV (pc := 32) hK hQ (hb) cal_X8_any yp_isC q1193 dX8_part_32 rfl rfl (nle rfl) (nle rfl) (nle rfl) (nle rfl) (kr_i fun r32 => ?_) kx_i
          refine J.pre fun e32 => ?_
          subst e32
          refine j_if_eq_b (pc := 35) (tgt := 47) hK dX8_part_35 (by decide) (fun c35 => absurd trivial c35) (fun c35 => ?_)
          refine j_aload_n (pc := 38) hK dX8_part_38 rfl ?_
          refine j_bipush (pc := 39) (v := 59) hK dX8_part_39 (by decide) ?_
          refine j_callV (pc := 41) hK hQ (c_Yis2 _) cal_X8_is_2 yp_isC q1232 dX8_part_41 rfl rfl (nle rfl) (nle rfl) (nle rfl) (nle rfl) (kr_i fun r41 => ?_) kx_i
          refine J.pre fun e41 => ?_
          subst e41
          refine j_if_ne_b (pc := 44) (tgt := 49) hK dX8_part_44 (by decide) (fun c44 => absurd c44 hs) (fun c44 => ?_)
          refine j_iconst (pc := 47) (v := 0) hK dX8_part_47 (by decide) ?_
          exact j_bret (pc := 48) hK hQ (nle rfl) (nle rfl) dX8_part_48 (fun h w => ⟨Or.inl rfl, ⟨_, rfl, rfl, _, _, _, w⟩⟩)
  · have hQ := hgen (p, none) (pt_no hw)
    refine j_aload_n (pc := 0) hK dX8_part_0 rfl ?_
    refine j_aload_n (pc := 1) hK dX8_part_1 rfl ?_
    refine j_callV (pc := 2) hK hQ (c_Yis hS hch hn2 hp) cal_X8_is yp_isC q1189 dX8_part_2 rfl rfl (nle rfl) (nle rfl) (nle rfl) (nle rfl) (kr_i fun r2 => ?_) kx_i
    refine J.pre fun e2 => ?_
    subst e2
    refine j_if_ne_b (pc := 5) (tgt := 10) hK dX8_part_5 (by decide) (fun c5 => absurd c5 hw) (fun c5 => ?_)
    refine j_iconst (pc := 8) (v := 0) hK dX8_part_8 (by decide) ?_
    exact j_bret (pc := 9) hK hQ (nle rfl) (nle rfl) dX8_part_9 (fun h w => ⟨Or.inl rfl, ⟨_, rfl, rfl, _, _, _, w⟩⟩)
end Y18
