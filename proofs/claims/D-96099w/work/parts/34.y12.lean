/-! copy, boats, stand -/
set_option maxRecDepth 100000
section S12
variable (f : Nat → Int32) (g : Nat → Int32 → Int32) (T : TX)
def cpS (src dst : Int32) : Nat → Nat → Int32 → Int32
  | 0 => g
  | n + 1 => ug (cpS src dst n) 38 (dst + nI n) (g 38 (src + nI n))
def oCopy (s i o j n : Int32) : R3 :=
  if ¬ (0 ≤ s ∧ s ≤ 3) then (-2, f, g) else if ¬ (0 ≤ o ∧ o ≤ 3) then (-2, f, g) else if g 36 s = -1 then (-11, f, g) else if g 36 o = -1 then (-11, f, g) else if ¬ g 36 s = g 36 o then (-13, f, g)
  else if i < 0 then (-12, f, g) else if j < 0 then (-12, f, g) else if n < 0 then (-12, f, g) else if (g 37 s).toInt64 < i.toInt64 + n.toInt64 then (-12, f, g) else if (g 37 o).toInt64 < j.toInt64 + n.toInt64 then (-12, f, g) else (n, f, cpS g (40 * s + i) (40 * o + j) n.toNatClampNeg)
def bsI (fr : Int32) (k : Nat) : Int64 := fr.toInt64 + 3 * (nI k).toInt64
def bsL (sh fr : Int32) : Nat → Nat → (Nat → Int32) → (Nat → Int32 → Int32) → Int32 → R3
  | 0, _, f, g, came => (came, f, g)
  | m + 1, k, f, g, came => if bsI fr k < 0 then (-12, f, g) else if (g 37 sh).toInt64 ≤ bsI fr k + 2 then (-12, f, g) else bsL sh fr m (k + 1) (oBoat f g (g 38 (40 * sh + (bsI fr k).toInt32)) (g 38 (40 * sh + (bsI fr k).toInt32 + 1)) (g 38 (40 * sh + (bsI fr k).toInt32 + 2))).2.1 (oBoat f g (g 38 (40 * sh + (bsI fr k).toInt32)) (g 38 (40 * sh + (bsI fr k).toInt32 + 1)) (g 38 (40 * sh + (bsI fr k).toInt32 + 2))).2.2 (if (oBoat f g (g 38 (40 * sh + (bsI fr k).toInt32)) (g 38 (40 * sh + (bsI fr k).toInt32 + 1)) (g 38 (40 * sh + (bsI fr k).toInt32 + 2))).1 < 0 then came else came + 1)
def oBoats (sh sort fr n : Int32) : R3 :=
  if ¬ (0 ≤ sh ∧ sh ≤ 3) then (-2, f, g) else if ¬ (0 ≤ sort ∧ sort ≤ 2) then (-2, f, g) else if ¬ (0 ≤ n ∧ n ≤ 7) then (-2, f, g) else if g 36 sh = -1 then (-11, f, g) else if ¬ g 36 sh = sort then (-13, f, g) else bsL sh fr n.toNatClampNeg 0 f g 0
/-- put in order, the greatest first -/
def insR (v : Int32) : List Int32 → List Int32
  | [] => [v]
  | x :: R => if v < x then x :: insR v R else v :: x :: R
def stL : Nat → List Int32
  | 0 => []
  | i + 1 => if wbiI f g T (nI i) < 0 then stL i else insR (wbiI f g T (nI i)) (stL i)
def sumS (R : List Int32) : Nat → Int32
  | 0 => 0
  | i + 1 => sumS R i + (if i < R.length then R.reverse.getD i 0 - f 10 else 240)
def oStand (nb : Nat) : Int32 := sumS f (stL f g T nb) (f 13).toNatClampNeg
end S12
def StM (g : Nat → Int32 → Int32) : List Int32 → Prop
  | [] => True
  | v :: S => g 32 (nI S.length) = v ∧ StM g S
section P12
variable {f : Nat → Int32} {g : Nat → Int32 → Int32} {T : TX}
theorem StM.put {n : Nat} {v : Int32} : ∀ {S : List Int32}, StM g S → S.length ≤ n → n < 2 ^ 31 → StM (ug g 32 (nI n) v) S := by
  intro S
  induction S with
  | nil => intros; trivial
  | cons a t ih =>
    intro h hn h2
    simp only [List.length_cons] at hn
    refine ⟨?_, ih h.2 (by omega) h2⟩
    rw [ug_i g 32 v (fun e => by rw [nI_eq (by omega) h2] at e; omega)]
    exact h.1
theorem StM.mid {v z : Int32} {D : List Int32} : ∀ {U : List Int32}, (U ++ z :: D).length < 2 ^ 31 → StM g (U ++ z :: D) → StM (ug g 32 (nI D.length) v) (U ++ v :: D) := by
  intro U
  induction U with
  | nil =>
    intro hl h
    exact ⟨ug_s _ _ _ _, h.2.put (Nat.le_refl _) (by simp at hl; omega)⟩
  | cons a t ih =>
    intro hl h
    simp only [List.cons_append, List.length_cons, List.length_append] at hl
    refine ⟨?_, ih (by simp; omega) h.2⟩
    have e : (t ++ v :: D).length = (t ++ z :: D).length := by simp
    show ug g 32 (nI D.length) v 32 (nI (t ++ v :: D).length) = a
    rw [e, ug_i g 32 v (fun q => by rw [nI_eq (by simp; omega) (by omega)] at q; simp at q; omega)]
    exact h.1
theorem StM.at {S : List Int32} (h : StM g S) : ∀ j, j < S.length → g 32 (nI j) = S.reverse.getD j 0 := by
  induction S with
  | nil => intro j hj; simp at hj
  | cons a t ih =>
    intro j hj
    simp only [List.length_cons] at hj
    rw [List.reverse_cons, List.getD_eq_getElem?_getD]
    by_cases e : j = t.length
    · subst e
      rw [List.getElem?_append_right (by simp)]
      simp
      exact h.1
    · rw [List.getElem?_append_left (by simp; omega), ← List.getD_eq_getElem?_getD]
      exact ih h.2 j (by omega)
theorem ins_spec {v : Int32} {D : List Int32} (hD : ∀ x R, D = x :: R → ¬ v < x) : ∀ U : List Int32, (∀ x ∈ U, v < x) → insR v (U ++ D) = U ++ v :: D := by
  intro U
  induction U with
  | nil =>
    intro _
    cases D with
    | nil => rfl
    | cons x R => exact if_neg (hD x R rfl)
  | cons a t ih =>
    intro h
    show (if v < a then a :: insR v (t ++ D) else _) = _
    rw [if_pos (h a List.mem_cons_self), ih (fun x hx => h x (List.mem_cons_of_mem _ hx))]
    rfl
theorem ins_len (v : Int32) : ∀ R : List Int32, (insR v R).length = R.length + 1 := by
  intro R
  induction R with
  | nil => rfl
  | cons x R ih =>
    unfold insR
    split
    · simp [ih]
    · rfl
theorem stL_len : ∀ i, (stL f g T i).length ≤ i := by
  intro i
  induction i with
  | zero => exact Nat.le_refl _
  | succ i ih =>
    unfold stL
    split
    · omega
    · rw [ins_len]; omega
theorem stL_n {i : Nat} (h : wbiI f g T (nI i) < 0) : stL f g T (i + 1) = stL f g T i := if_pos h
theorem stL_p {i : Nat} (h : ¬ wbiI f g T (nI i) < 0) : stL f g T (i + 1) = insR (wbiI f g T (nI i)) (stL f g T i) := if_neg h
theorem oB_g {a b c : Int32} {k : Nat} (h : k = 36 ∨ k = 37 ∨ k = 38) (j : Int32) : (oBoat f g a b c).2.2 k j = g k j := by
  unfold oBoat
  split
  · rfl
  · split
    · rfl
    · split
      · rfl
      · split
        · rfl
        · split
          · rfl
          · rcases h with rfl | rfl | rfl <;> simp [ug]
theorem oB_0 {a b c : Int32} (h0 : 0 ≤ f 0) (h7 : f 0 ≤ 7) : 0 ≤ (oBoat f g a b c).2.1 0 ∧ (oBoat f g a b c).2.1 0 ≤ 7 := by
  unfold oBoat
  split
  · exact ⟨h0, h7⟩
  · split
    · exact ⟨h0, h7⟩
    · split
      · exact ⟨h0, h7⟩
      · split
        · exact ⟨h0, h7⟩
        · split
          · exact ⟨h0, h7⟩
          · simp [upd]
            grind
end P12
section Y12
variable {Γ : Gam} {A : Nat → Prop} {L : Nat → Nat} {f : Nat → Int32} {g : Nat → Int32 → Int32} {T : TX} {P : PH → Prop}
theorem wbi_cg {g1 : Nat → Int32 → Int32} (h : ∀ k, k ≠ 32 → g1 k = g k) (b : Int32) : wbiI f g1 T b = wbiI f g T b := by
  have e : g1 = (fun k => if k = 32 then g1 32 else g k) := funext (fun k => by
    by_cases hk : k = 32
    · subst hk
      simp
    · simp [hk, h k hk])
  generalize g1 32 = q at e
  subst e
  rfl
theorem ug_32 {g1 : Nat → Int32 → Int32} (h : ∀ k, k ≠ 32 → g1 k = g k) (i v : Int32) : ∀ k, k ≠ 32 → (ug g1 32 i v) k = g k := fun k hk => by
  rw [← h k hk]
  funext j
  exact ug_k g1 i v hk j
theorem c_Ystand {nb : Nat} (hn : nb ≤ 7) (e0 : f 0 = nI nb) (ho : OkR f T) (h13 : 0 ≤ f 13) (h13' : f 13 ≤ 20) : Ct Γ A yX8_stand wX8_stand 6 0 0 [.ref (L 40)] (YI Γ L f g T) (RI fun r h => r = oStand f g T nb ∧ ∃ g', (∀ k, k ≠ 32 → g' k = g k) ∧ YI Γ L f g' T h) := by
  refine Ct.of (cc := cX8_stand) (nL := 5) (ret := (some .int)) (ls := [some (.ref (L 40)), none, none, none, none]) rfl rfl rfl (nle rfl) ?_
  intro K hK hQ
  obtain ⟨wt, hwt, ewt⟩ := nI_of2 (x := f 13) (M := 20) (n := 20) (by decide) (Int32.not_lt.mpr h13) h13'
  have loop2 : ∀ (g1 : Nat → Int32 → Int32) (R : List Int32), R = stL f g T nb → (∀ k, k ≠ 32 → g1 k = g k) → StM g1 R → ∀ (r i : Nat), i + r = wt → J Γ A K 89 [some (.ref (L 40)), some (.int (nI R.length)), some (.int (sumS f R i)), some (.int (nI i)), none] [] (YI Γ L f g1 T) 0 0 := by
    intro g1 R eR hsm hR r
    have hlen : R.length ≤ 7 := by rw [eR]; have := stL_len (f := f) (g := g) (T := T) nb; omega
    induction r with
    | zero =>
      intro i hi
      have : i = wt := by omega
      subst this
      refine j_iload_n (pc := 89) hK dX8_stand_89 rfl ?_
      refine j_aload_n (pc := 90) hK dX8_stand_90 rfl ?_
      refine yi_getI (pc := 91) (k := 13) hK (by decide) rfl rfl q1253 rfl dX8_stand_91 ?_
      refine j_icmp_ge (pc := 94) (tgt := 128) hK dX8_stand_94 (by decide) (fun c94 => ?_) (fun c94 => absurd (by rw [ewt]; exact nI_le (by omega) (by omega)) c94)
      refine j_iload_n (pc := 128) hK dX8_stand_128 rfl ?_
      exact j_iret (pc := 129) hK hQ (nle rfl) (nle rfl) dX8_stand_129 (fun h w => ⟨_, rfl, by unfold oStand; rw [ewt, nI_clamp (by omega), ← eR], g1, hsm, w⟩)
    | succ r ih =>
      intro i hi
      refine j_iload_n (pc := 89) hK dX8_stand_89 rfl ?_
      refine j_aload_n (pc := 90) hK dX8_stand_90 rfl ?_
      refine yi_getI (pc := 91) (k := 13) hK (by decide) rfl rfl q1253 rfl dX8_stand_91 ?_
      refine j_icmp_ge (pc := 94) (tgt := 128) hK dX8_stand_94 (by decide) (fun c94 => absurd c94 (by rw [ewt]; exact nI_ge (by omega) (by omega))) (fun c94 => ?_)
      refine j_iload_n (pc := 97) hK dX8_stand_97 rfl ?_
      refine j_iload_n (pc := 98) hK dX8_stand_98 rfl ?_
      refine j_iload_n (pc := 99) hK dX8_stand_99 rfl ?_
      refine j_icmp_ge (pc := 100) (tgt := 117) hK dX8_stand_100 (by decide) (fun c100 => ?_) (fun c100 => ?_)
      · refine j_sipush (pc := 117) (v := 240) hK dX8_stand_117 (by decide) ?_
        refine j_iadd (pc := 120) hK dX8_stand_120 ?_
        refine j_ist2 (pc := 121) hK dX8_stand_121 (by decide) rfl ?_
        refine j_iinc3 (pc := 122) (v := 1) hK dX8_stand_122 (by decide) rfl (by decide) ?_
        refine j_goto (pc := 125) (tgt := 89) hK dX8_stand_125 (by decide) ?_
        rw [nI_1]
        first
          | (rw [show sumS f R i + (R.reverse.getD i 0 - f 10) = sumS f R (i + 1) from (congrArg (sumS f R i + ·) (if_pos hlt)).symm]; exact ih (i + 1) (by omega))
          | (rw [show sumS f R i + 240 = sumS f R (i + 1) from (congrArg (sumS f R i + ·) (if_neg (fun z => absurd c100 (nI_ge z (by omega))))).symm]; exact ih (i + 1) (by omega))
      · have hlt : i < R.length := Nat.lt_of_not_le (fun z => c100 (nI_le z (by omega)))
        refine j_aload_n (pc := 103) hK dX8_stand_103 rfl ?_
        refine yi_getR (pc := 104) (k := 32) hK (by decide) rfl q1272 rfl dX8_stand_104 ?_
        refine j_iload_n (pc := 107) hK dX8_stand_107 rfl ?_
        refine yi_ald (pc := 108) (k := 32) hK rfl rfl (vp_in_nI (show i < 7 by omega) (by decide)) dX8_stand_108 ?_
        rw [hR.at i hlt]
        refine j_aload_n (pc := 109) hK dX8_stand_109 rfl ?_
        refine yi_getI (pc := 110) (k := 10) hK (by decide) rfl rfl q1250 rfl dX8_stand_110 ?_
        refine j_isub (pc := 113) hK dX8_stand_113 ?_
        refine j_goto (pc := 114) (tgt := 120) hK dX8_stand_114 (by decide) ?_
        refine j_iadd (pc := 120) hK dX8_stand_120 ?_
        refine j_ist2 (pc := 121) hK dX8_stand_121 (by decide) rfl ?_
        refine j_iinc3 (pc := 122) (v := 1) hK dX8_stand_122 (by decide) rfl (by decide) ?_
        refine j_goto (pc := 125) (tgt := 89) hK dX8_stand_125 (by decide) ?_
        rw [nI_1]
        first
          | (rw [show sumS f R i + (R.reverse.getD i 0 - f 10) = sumS f R (i + 1) from (congrArg (sumS f R i + ·) (if_pos hlt)).symm]; exact ih (i + 1) (by omega))
          | (rw [show sumS f R i + 240 = sumS f R (i + 1) from (congrArg (sumS f R i + ·) (if_neg (fun z => absurd c100 (nI_ge z (by omega))))).symm]; exact ih (i + 1) (by omega))
  have loop1 : ∀ (r i : Nat) (g1 : Nat → Int32 → Int32), i + r = nb → (∀ k, k ≠ 32 → g1 k = g k) → StM g1 (stL f g T i) → J Γ A K 4 [some (.ref (L 40)), some (.int (nI (stL f g T i).length)), some (.int (nI i)), none, none] [] (YI Γ L f g1 T) 0 0 := by
    intro r
    induction r with
    | zero =>
      intro i g1 hi hsm hS
      have : i = nb := by omega
      subst this
      refine j_iload_n (pc := 4) hK dX8_stand_4 rfl ?_
      refine j_aload_n (pc := 5) hK dX8_stand_5 rfl ?_
      refine yi_getI (pc := 6) (k := 0) hK (by decide) rfl rfl q1240 rfl dX8_stand_6 ?_
      refine j_icmp_ge (pc := 9) (tgt := 85) hK dX8_stand_9 (by decide) (fun c9 => ?_) (fun c9 => absurd (by rw [e0]; exact nI_le (by omega) (by omega)) c9)
      refine j_iconst (pc := 85) (v := 0) hK dX8_stand_85 (by decide) ?_
      refine j_ist2 (pc := 86) hK dX8_stand_86 (by decide) rfl ?_
      refine j_iconst (pc := 87) (v := 0) hK dX8_stand_87 (by decide) ?_
      refine j_ist3 (pc := 88) hK dX8_stand_88 (by decide) rfl ?_
      exact loop2 g1 _ rfl hsm hS wt 0 (by omega)
    | succ r ih =>
      intro i g1 hi hsm hS
      have hb : vp_in (nI i) 7 := vp_in_nI (by omega) (by decide)
      have hl := stL_len (f := f) (g := g) (T := T) i
      have inner : ¬ wbiI f g T (nI i) < 0 → ∀ (D U : List Int32) (z : Int32) (g2 : Nat → Int32 → Int32), U ++ D = stL f g T i → (∀ x ∈ U, wbiI f g T (nI i) < x) → (∀ k, k ≠ 32 → g2 k = g k) → StM g2 (U ++ z :: D) → J Γ A K 31 [some (.ref (L 40)), some (.int (nI ((stL f g T i).length + 1))), some (.int (nI i)), some (.int (wbiI f g T (nI i))), some (.int (nI D.length))] [] (YI Γ L f g2 T) 0 0 := by
        intro hv D
        have fin : ∀ (D U : List Int32) (z : Int32) (g2 : Nat → Int32 → Int32), U ++ D = stL f g T i → (∀ x ∈ U, wbiI f g T (nI i) < x) → (∀ k, k ≠ 32 → g2 k = g k) → StM g2 (U ++ z :: D) → (∀ x R, D = x :: R → ¬ wbiI f g T (nI i) < x) → J Γ A K 71 [some (.ref (L 40)), some (.int (nI ((stL f g T i).length + 1))), some (.int (nI i)), some (.int (wbiI f g T (nI i))), some (.int (nI D.length))] [] (YI Γ L f g2 T) 0 0 := by
          intro D U z g2 e1 e2 e3 e4 e5
          have hU : U.length + D.length = (stL f g T i).length := by rw [← e1]; simp
          have e6 : stL f g T (i + 1) = U ++ wbiI f g T (nI i) :: D := by rw [stL_p hv, ← e1, ins_spec e5 U e2]
          have e7 := ih (i + 1) (ug g2 32 (nI D.length) (wbiI f g T (nI i))) (by omega) (ug_32 e3 _ _) (by rw [e6]; exact e4.mid (by simp; omega))
          rw [show (stL f g T (i + 1)).length = (stL f g T i).length + 1 by rw [stL_p hv, ins_len]] at e7
          refine j_aload_n (pc := 71) hK dX8_stand_71 rfl ?_
          refine yi_getR (pc := 72) (k := 32) hK (by decide) rfl q1272 rfl dX8_stand_72 ?_
          refine j_iload (pc := 75) hK dX8_stand_75 rfl ?_
          refine j_iload_n (pc := 77) hK dX8_stand_77 rfl ?_
          refine yi_ast (pc := 78) (k := 32) hK rfl rfl (by decide) (by decide) (vp_in_nI (show D.length < 7 by omega) (by decide)) dX8_stand_78 ?_
          refine j_iinc2 (pc := 79) (v := 1) hK dX8_stand_79 (by decide) rfl (by decide) ?_
          refine j_goto (pc := 82) (tgt := 4) hK dX8_stand_82 (by decide) ?_
          rw [nI_1]
          refine J.fg _ ?_ e7
          exact ⟨rfl, rfl, rfl, trivial⟩
        induction D with
        | nil =>
          intro U z g2 e1 e2 e3 e4
          refine j_iload (pc := 31) hK dX8_stand_31 rfl ?_
          refine j_if_le (pc := 33) (tgt := 71) hK dX8_stand_33 (by decide) (fun c33 => ?_) (fun c33 => absurd (by decide) c33)
          exact fin [] U z g2 e1 e2 e3 e4 (fun x R h => by cases h)
        | cons x D ihD =>
          intro U z g2 e1 e2 e3 e4
          have hU : U.length + (D.length + 1) = (stL f g T i).length := by rw [← e1]; simp
          have ex : nI (x :: D).length - 1 = nI D.length := nI_pred _
          have hlist : U ++ z :: x :: D = (U ++ [z]) ++ x :: D := by simp
          have hx : g2 32 (nI D.length) = x := by
            have : ∀ U : List Int32, StM g2 (U ++ x :: D) → g2 32 (nI D.length) = x := by
              intro U
              induction U with
              | nil => intro h; exact h.1
              | cons a t iht => intro h; exact iht h.2
            exact this _ (by rw [← hlist]; exact e4)
          have hb1 : vp_in (nI (x :: D).length - 1) 7 := by rw [ex]; exact vp_in_nI (by omega) (by decide)
          have hb2 : vp_in (nI (x :: D).length) 7 := vp_in_nI (by simp; omega) (by decide)
          refine j_iload (pc := 31) hK dX8_stand_31 rfl ?_
          refine j_if_le (pc := 33) (tgt := 71) hK dX8_stand_33 (by decide) (fun c33 => absurd c33 (by rw [show (0 : Int32) = nI 0 by decide]; exact nI_ge (by simp) (by simp; omega))) (fun c33 => ?_)
          refine j_aload_n (pc := 36) hK dX8_stand_36 rfl ?_
          refine yi_getR (pc := 37) (k := 32) hK (by decide) rfl q1272 rfl dX8_stand_37 ?_
          refine j_iload (pc := 40) hK dX8_stand_40 rfl ?_
          refine j_iconst (pc := 42) (v := 1) hK dX8_stand_42 (by decide) ?_
          refine j_isub (pc := 43) hK dX8_stand_43 ?_
          refine yi_ald (pc := 44) (k := 32) hK rfl rfl hb1 dX8_stand_44 ?_
          rw [ex, hx]
          refine j_iload_n (pc := 45) hK dX8_stand_45 rfl ?_
          refine j_icmp_le (pc := 46) (tgt := 71) hK dX8_stand_46 (by decide) (fun c46 => ?_) (fun c46 => ?_)
          · exact fin (x :: D) U z g2 e1 e2 e3 e4 (fun a R h => by cases h; exact Int32.not_lt.mpr c46)
          · refine j_aload_n (pc := 49) hK dX8_stand_49 rfl ?_
            refine yi_getR (pc := 50) (k := 32) hK (by decide) rfl q1272 rfl dX8_stand_50 ?_
            refine j_iload (pc := 53) hK dX8_stand_53 rfl ?_
            refine j_aload_n (pc := 55) hK dX8_stand_55 rfl ?_
            refine yi_getR (pc := 56) (k := 32) hK (by decide) rfl q1272 rfl dX8_stand_56 ?_
            refine j_iload (pc := 59) hK dX8_stand_59 rfl ?_
            refine j_iconst (pc := 61) (v := 1) hK dX8_stand_61 (by decide) ?_
            refine j_isub (pc := 62) hK dX8_stand_62 ?_
            refine yi_ald (pc := 63) (k := 32) hK rfl rfl hb1 dX8_stand_63 ?_
            rw [ex, hx]
            refine yi_ast (pc := 64) (k := 32) hK rfl rfl (by decide) (by decide) hb2 dX8_stand_64 ?_
            refine j_iinc4 (pc := 65) (v := (-1)) hK dX8_stand_65 (by decide) rfl (by decide) ?_
            refine j_goto (pc := 68) (tgt := 31) hK dX8_stand_68 (by decide) ?_
            rw [show nI (x :: D).length + (-1) = nI D.length from pk_m1 _]
            refine ihD (U ++ [x]) x _ (by rw [← e1]; simp) (fun a ha => ?_) (ug_32 e3 _ _) ?_
            · rcases List.mem_append.mp ha with q | q
              · exact e2 a q
              · rw [List.mem_singleton.mp q]; exact Int32.not_le.mp c46
            · have := e4.mid (v := x) (by simp; omega)
              simpa using this
      refine j_iload_n (pc := 4) hK dX8_stand_4 rfl ?_
      refine j_aload_n (pc := 5) hK dX8_stand_5 rfl ?_
      refine yi_getI (pc := 6) (k := 0) hK (by decide) rfl rfl q1240 rfl dX8_stand_6 ?_
      refine j_icmp_ge (pc := 9) (tgt := 85) hK dX8_stand_9 (by decide) (fun c9 => absurd c9 (by rw [e0]; exact nI_ge (by omega) (by omega))) (fun c9 => ?_)
      refine j_aload_n (pc := 12) hK dX8_stand_12 rfl ?_
      refine j_iload_n (pc := 13) hK dX8_stand_13 rfl ?_
      refine j_callV (pc := 14) hK hQ (c_YwouldBeIn _ (by assumption) ho) cal_X8_wouldBeIn yi_isC q1446 dX8_stand_14 rfl rfl (nle rfl) (nle rfl) (nle rfl) (nle rfl) (kr_i fun r14 => ?_) kx_i
      refine J.pre fun e14 => ?_
      subst e14
      rw [wbi_cg hsm]
      refine j_ist3 (pc := 17) hK dX8_stand_17 (by decide) rfl ?_
      refine j_iload_n (pc := 18) hK dX8_stand_18 rfl ?_
      refine j_if_ge (pc := 19) (tgt := 25) hK dX8_stand_19 (by decide) (fun c19 => ?_) (fun c19 => ?_)
      · refine j_iload_n (pc := 25) hK dX8_stand_25 rfl ?_
        refine j_iinc1 (pc := 26) (v := 1) hK dX8_stand_26 (by decide) rfl (by decide) ?_
        refine j_ist4 (pc := 29) hK dX8_stand_29 (by decide) rfl ?_
        rw [nI_1]
        exact inner (Int32.not_lt.mpr c19) (stL f g T i) [] (g1 32 (nI (stL f g T i).length)) g1 rfl (fun x h => by cases h) hsm ⟨rfl, hS⟩
      · refine j_goto (pc := 22) (tgt := 79) hK dX8_stand_22 (by decide) ?_
        refine j_iinc2 (pc := 79) (v := 1) hK dX8_stand_79 (by decide) rfl (by decide) ?_
        refine j_goto (pc := 82) (tgt := 4) hK dX8_stand_82 (by decide) ?_
        rw [nI_1]
        refine J.fg _ ?_ (ih (i + 1) g1 (by omega) hsm (by rw [stL_n (Int32.not_le.mp c19)]; exact hS))
        exact ⟨rfl, by rw [stL_n (Int32.not_le.mp c19)], rfl, trivial⟩
  refine j_iconst (pc := 0) (v := 0) hK dX8_stand_0 (by decide) ?_
  refine j_ist1 (pc := 1) hK dX8_stand_1 (by decide) rfl ?_
  refine j_iconst (pc := 2) (v := 0) hK dX8_stand_2 (by decide) ?_
  refine j_ist2 (pc := 3) hK dX8_stand_3 (by decide) rfl ?_
  exact loop1 nb 0 g (by omega) (fun _ _ => rfl) trivial
theorem cp_39 {f1 : Nat → Int32} {g1 : Nat → Int32 → Int32} (h : Ess f1 g1 f g) : ∀ j, g1 38 j = g 38 j := (h 38 rfl).2
theorem sum_le {a b s : Int32} (ha : ¬ a < 0) (hb : ¬ b < 0) (hs : s ≤ 40) (h : ¬ s.toInt64 < a.toInt64 + b.toInt64) : ∃ x y : Nat, a = nI x ∧ b = nI y ∧ x + y ≤ 40 ∧ s.toInt ≥ x + y := by
  obtain ⟨x, hx, rfl⟩ := nI_of ha
  obtain ⟨y, hy, rfl⟩ := nI_of hb
  refine ⟨x, y, rfl, rfl, ?_⟩
  rw [nI_l hx, nI_l hy, lN_add] at h
  have h1 := Int64.not_lt.mp h
  have h2 := Int64.le_iff_toInt_le.mp h1
  rw [pk_lT (by omega), Int32.toInt_toInt64] at h2
  have h3 := Int32.le_iff_toInt_le.mp hs
  have h4 : (40 : Int32).toInt = 40 := by decide
  omega
theorem c_Ycopy (s i o j n : Int32) (hz : ∀ s, 0 ≤ s → s ≤ 3 → 0 ≤ g 37 s ∧ g 37 s ≤ 40) : Ct Γ A yX8_copy wX8_copy 2 0 0 [.ref (L 40), .int s, .int i, .int o, .int j, .int n] (YI Γ L f g T) (RI (YO Γ L T (oCopy f g s i o j n))) := by
  refine Ct.of (cc := cX8_copy) (nL := 7) (ret := (some .int)) (ls := [some (.ref (L 40)), some (.int s), some (.int i), some (.int o), some (.int j), some (.int n), none]) rfl rfl rfl (nle rfl) ?_
  intro K hK hQ
  have idx : ∀ {s : Int32}, (0 ≤ s ∧ s ≤ 3) → ∀ a k : Nat, a + k < 40 → vp_in (40 * s + nI a + nI k) 160 := by
    intro s hs a k hak
    obtain ⟨q, hq, -, e⟩ := it_nI hs
    rw [e, nI_add]
    exact vp_in_nI (by omega) (by decide)
  have loop2 : ∀ (a c m : Nat), i = nI a → j = nI c → n = nI m → a + m ≤ 40 → c + m ≤ 40 → (0 ≤ o ∧ o ≤ 3) → oCopy f g s i o j n = (n, f, cpS g (40 * s + i) (40 * o + j) m) → ∀ (r k : Nat) (f1 : Nat → Int32) (g1 : Nat → Int32 → Int32), k + r = m → Ess f1 g1 f (cpS g (40 * s + i) (40 * o + j) k) → YT f1 g1 T → (∀ q, q < m → g1 39 (nI q) = g 38 (40 * s + i + nI q)) → J Γ A K 154 [some (.ref (L 40)), some (.int s), some (.int i), some (.int o), some (.int j), some (.int n), some (.int (nI k))] [] (YW Γ L f1 g1) 0 0 := by
    intro a c m ea ec em h1 h2 ho hq r
    induction r with
    | zero =>
      intro k f1 g1 hk he ht hsp
      have : k = m := by omega
      subst this
      refine j_iload (pc := 154) hK dX8_copy_154 rfl ?_
      refine j_iload (pc := 156) hK dX8_copy_156 rfl ?_
      refine j_icmp_ge (pc := 158) (tgt := 189) hK dX8_copy_158 (by decide) (fun c158 => ?_) (fun c158 => absurd (by rw [em]; exact nI_le (by omega) (by omega)) c158)
      refine j_iload (pc := 189) hK dX8_copy_189 rfl ?_
      exact j_iret (pc := 191) hK hQ (nle rfl) (nle rfl) dX8_copy_191 (fun h w => ⟨_, rfl, _, _, hq, _, _, w, he, ht⟩)
    | succ r ih =>
      intro k f1 g1 hk he ht hsp
      refine j_iload (pc := 154) hK dX8_copy_154 rfl ?_
      refine j_iload (pc := 156) hK dX8_copy_156 rfl ?_
      refine j_icmp_ge (pc := 158) (tgt := 189) hK dX8_copy_158 (by decide) (fun c158 => absurd c158 (by rw [em]; exact nI_ge (by omega) (by omega))) (fun c158 => ?_)
      refine j_aload_n (pc := 161) hK dX8_copy_161 rfl ?_
      refine y_getR (pc := 162) (k := 38) hK (by decide) rfl q1278 rfl dX8_copy_162 ?_
      refine j_bipush (pc := 165) (v := 40) hK dX8_copy_165 (by decide) ?_
      refine j_iload_n (pc := 167) hK dX8_copy_167 rfl ?_
      refine j_imul (pc := 168) hK dX8_copy_168 ?_
      refine j_iload (pc := 169) hK dX8_copy_169 rfl ?_
      refine j_iadd (pc := 171) hK dX8_copy_171 ?_
      refine j_iload (pc := 172) hK dX8_copy_172 rfl ?_
      refine j_iadd (pc := 174) hK dX8_copy_174 ?_
      refine j_aload_n (pc := 175) hK dX8_copy_175 rfl ?_
      refine y_getR (pc := 176) (k := 39) hK (by decide) rfl q1279 rfl dX8_copy_176 ?_
      refine j_iload (pc := 179) hK dX8_copy_179 rfl ?_
      refine y_ald (pc := 181) (k := 39) hK rfl (vp_in_nI (show k < 40 by omega) (by decide)) dX8_copy_181 ?_
      rw [hsp k (by omega)]
      refine y_ast (pc := 182) (k := 38) hK rfl (by rw [ec]; exact idx ho c k (by omega)) dX8_copy_182 ?_
      refine j_iinc6 (pc := 183) (v := 1) hK dX8_copy_183 (by decide) rfl (by decide) ?_
      refine j_goto (pc := 186) (tgt := 154) hK dX8_copy_186 (by decide) ?_
      rw [nI_1]
      exact ih (k + 1) _ _ (by omega) (he.putA 38 _ _) (ht.putA (by decide) (by decide) _ _) (fun q hq => by rw [ug_k g1 _ _ (by decide)]; exact hsp q hq)
  have loop1 : ∀ (a c m : Nat), i = nI a → j = nI c → n = nI m → a + m ≤ 40 → c + m ≤ 40 → (0 ≤ s ∧ s ≤ 3) → (0 ≤ o ∧ o ≤ 3) → oCopy f g s i o j n = (n, f, cpS g (40 * s + i) (40 * o + j) m) → ∀ (r k : Nat) (f1 : Nat → Int32) (g1 : Nat → Int32 → Int32), k + r = m → Ess f1 g1 f g → YT f1 g1 T → (∀ q, q < k → g1 39 (nI q) = g 38 (40 * s + i + nI q)) → J Γ A K 117 [some (.ref (L 40)), some (.int s), some (.int i), some (.int o), some (.int j), some (.int n), some (.int (nI k))] [] (YW Γ L f1 g1) 0 0 := by
    intro a c m ea ec em h1 h2 hs ho hq r
    induction r with
    | zero =>
      intro k f1 g1 hk he ht hsp
      have : k = m := by omega
      subst this
      refine j_iload (pc := 117) hK dX8_copy_117 rfl ?_
      refine j_iload (pc := 119) hK dX8_copy_119 rfl ?_
      refine j_icmp_ge (pc := 121) (tgt := 151) hK dX8_copy_121 (by decide) (fun c121 => ?_) (fun c121 => absurd (by rw [em]; exact nI_le (by omega) (by omega)) c121)
      refine j_iconst (pc := 151) (v := 0) hK dX8_copy_151 (by decide) ?_
      refine j_ist6 (pc := 152) hK dX8_copy_152 (by decide) rfl ?_
      exact loop2 a c k ea ec em h1 h2 ho hq k 0 f1 g1 (by omega) he ht hsp
    | succ r ih =>
      intro k f1 g1 hk he ht hsp
      refine j_iload (pc := 117) hK dX8_copy_117 rfl ?_
      refine j_iload (pc := 119) hK dX8_copy_119 rfl ?_
      refine j_icmp_ge (pc := 121) (tgt := 151) hK dX8_copy_121 (by decide) (fun c121 => absurd c121 (by rw [em]; exact nI_ge (by omega) (by omega))) (fun c121 => ?_)
      refine j_aload_n (pc := 124) hK dX8_copy_124 rfl ?_
      refine y_getR (pc := 125) (k := 39) hK (by decide) rfl q1279 rfl dX8_copy_125 ?_
      refine j_iload (pc := 128) hK dX8_copy_128 rfl ?_
      refine j_aload_n (pc := 130) hK dX8_copy_130 rfl ?_
      refine y_getR (pc := 131) (k := 38) hK (by decide) rfl q1278 rfl dX8_copy_131 ?_
      refine j_bipush (pc := 134) (v := 40) hK dX8_copy_134 (by decide) ?_
      refine j_iload_n (pc := 136) hK dX8_copy_136 rfl ?_
      refine j_imul (pc := 137) hK dX8_copy_137 ?_
      refine j_iload_n (pc := 138) hK dX8_copy_138 rfl ?_
      refine j_iadd (pc := 139) hK dX8_copy_139 ?_
      refine j_iload (pc := 140) hK dX8_copy_140 rfl ?_
      refine j_iadd (pc := 142) hK dX8_copy_142 ?_
      refine y_ald (pc := 143) (k := 38) hK rfl (by rw [ea]; exact idx hs a k (by omega)) dX8_copy_143 ?_
      rw [(he 38 rfl).2]
      refine y_ast (pc := 144) (k := 39) hK rfl (vp_in_nI (show k < 40 by omega) (by decide)) dX8_copy_144 ?_
      refine j_iinc6 (pc := 145) (v := 1) hK dX8_copy_145 (by decide) rfl (by decide) ?_
      refine j_goto (pc := 148) (tgt := 117) hK dX8_copy_148 (by decide) ?_
      rw [nI_1]
      refine ih (k + 1) _ _ (by omega) (he.junkA rfl _ _) (ht.putA (by decide) (by decide) _ _) (fun q hq => ?_)
      by_cases e : q = k
      · subst e; rw [ug_s]
      · rw [ug_i g1 39 _ (fun z => e ((nI_eq (by omega) (by omega)).mp z))]
        exact hsp q (by omega)
  refine j_iload_n (pc := 0) hK dX8_copy_0 rfl ?_
  refine j_iconst (pc := 1) (v := 0) hK dX8_copy_1 (by decide) ?_
  refine j_iconst (pc := 2) (v := 3) hK dX8_copy_2 (by decide) ?_
  refine j_callS (pc := 3) hK hQ (c_Ywithin _ _ _) cal_X8_within q1167 dX8_copy_3 rfl rfl (nle rfl) (nle rfl) (nle rfl) (nle rfl) (kr_i fun r3 => ?_) kx_i
  refine J.pre fun e3 => ?_
  subst e3
  refine j_if_eq_b (pc := 6) (tgt := 18) hK dX8_copy_6 (by decide) (fun c6 => ?_) (fun c6 => ?_)
  · refine j_bipush (pc := 18) (v := (-2)) hK dX8_copy_18 (by decide) ?_
    exact j_iret (pc := 20) hK hQ (nle rfl) (nle rfl) dX8_copy_20 (fun h w => ⟨_, rfl, _, _, by unfold oCopy; first | rw [if_pos c6] | (rw [if_neg (fun z => z c6)]; first | rw [if_pos c15] | (rw [if_neg (fun z => z c15)]; first | rw [if_pos c28] | (rw [if_neg c28]; first | rw [if_pos c38] | (rw [if_neg c38]; first | rw [if_pos c56] | (rw [if_neg (fun z => z c56)]; first | rw [if_pos c63] | (rw [if_neg c63]; first | rw [if_pos c68] | (rw [if_neg c68]; first | rw [if_pos c73] | (rw [if_neg c73]; first | rw [if_pos ((lg_cmp_gt _ _).mp c90)] | (rw [if_neg (fun z => c90 ((lg_cmp_gt _ _).mpr z)), if_pos (Int64.not_le.mp (fun z => c108 ((lg_cmp_le _ _).mpr z)))]))))))))), w⟩)
  · refine j_iload_n (pc := 9) hK dX8_copy_9 rfl ?_
    refine j_iconst (pc := 10) (v := 0) hK dX8_copy_10 (by decide) ?_
    refine j_iconst (pc := 11) (v := 3) hK dX8_copy_11 (by decide) ?_
    refine j_callS (pc := 12) hK hQ (c_Ywithin _ _ _) cal_X8_within q1167 dX8_copy_12 rfl rfl (nle rfl) (nle rfl) (nle rfl) (nle rfl) (kr_i fun r12 => ?_) kx_i
    refine J.pre fun e12 => ?_
    subst e12
    refine j_if_ne_b (pc := 15) (tgt := 21) hK dX8_copy_15 (by decide) (fun c15 => ?_) (fun c15 => ?_)
    · have hb1 := sh_in c6
      have hb2 := sh_in c15
      refine j_aload_n (pc := 21) hK dX8_copy_21 rfl ?_
      refine yi_getR (pc := 22) (k := 36) hK (by decide) rfl q1276 rfl dX8_copy_22 ?_
      refine j_iload_n (pc := 25) hK dX8_copy_25 rfl ?_
      refine yi_ald (pc := 26) (k := 36) hK rfl rfl (by first | assumption | exact vp_in_c (by decide)) dX8_copy_26 ?_
      refine j_iconst (pc := 27) (v := (-1)) hK dX8_copy_27 (by decide) ?_
      refine j_icmp_eq (pc := 28) (tgt := 41) hK dX8_copy_28 (by decide) (fun c28 => ?_) (fun c28 => ?_)
      · refine j_bipush (pc := 41) (v := (-11)) hK dX8_copy_41 (by decide) ?_
        exact j_iret (pc := 43) hK hQ (nle rfl) (nle rfl) dX8_copy_43 (fun h w => ⟨_, rfl, _, _, by unfold oCopy; first | rw [if_pos c6] | (rw [if_neg (fun z => z c6)]; first | rw [if_pos c15] | (rw [if_neg (fun z => z c15)]; first | rw [if_pos c28] | (rw [if_neg c28]; first | rw [if_pos c38] | (rw [if_neg c38]; first | rw [if_pos c56] | (rw [if_neg (fun z => z c56)]; first | rw [if_pos c63] | (rw [if_neg c63]; first | rw [if_pos c68] | (rw [if_neg c68]; first | rw [if_pos c73] | (rw [if_neg c73]; first | rw [if_pos ((lg_cmp_gt _ _).mp c90)] | (rw [if_neg (fun z => c90 ((lg_cmp_gt _ _).mpr z)), if_pos (Int64.not_le.mp (fun z => c108 ((lg_cmp_le _ _).mpr z)))]))))))))), w⟩)
      · refine j_aload_n (pc := 31) hK dX8_copy_31 rfl ?_
        refine yi_getR (pc := 32) (k := 36) hK (by decide) rfl q1276 rfl dX8_copy_32 ?_
        refine j_iload_n (pc := 35) hK dX8_copy_35 rfl ?_
        refine yi_ald (pc := 36) (k := 36) hK rfl rfl (by first | assumption | exact vp_in_c (by decide)) dX8_copy_36 ?_
        refine j_iconst (pc := 37) (v := (-1)) hK dX8_copy_37 (by decide) ?_
        refine j_icmp_ne (pc := 38) (tgt := 44) hK dX8_copy_38 (by decide) (fun c38 => ?_) (fun c38 => ?_)
        · refine j_aload_n (pc := 44) hK dX8_copy_44 rfl ?_
          refine yi_getR (pc := 45) (k := 36) hK (by decide) rfl q1276 rfl dX8_copy_45 ?_
          refine j_iload_n (pc := 48) hK dX8_copy_48 rfl ?_
          refine yi_ald (pc := 49) (k := 36) hK rfl rfl (by first | assumption | exact vp_in_c (by decide)) dX8_copy_49 ?_
          refine j_aload_n (pc := 50) hK dX8_copy_50 rfl ?_
          refine yi_getR (pc := 51) (k := 36) hK (by decide) rfl q1276 rfl dX8_copy_51 ?_
          refine j_iload_n (pc := 54) hK dX8_copy_54 rfl ?_
          refine yi_ald (pc := 55) (k := 36) hK rfl rfl (by first | assumption | exact vp_in_c (by decide)) dX8_copy_55 ?_
          refine j_icmp_eq (pc := 56) (tgt := 62) hK dX8_copy_56 (by decide) (fun c56 => ?_) (fun c56 => ?_)
          · refine j_iload_n (pc := 62) hK dX8_copy_62 rfl ?_
            refine j_if_lt (pc := 63) (tgt := 111) hK dX8_copy_63 (by decide) (fun c63 => ?_) (fun c63 => ?_)
            · refine j_bipush (pc := 111) (v := (-12)) hK dX8_copy_111 (by decide) ?_
              exact j_iret (pc := 113) hK hQ (nle rfl) (nle rfl) dX8_copy_113 (fun h w => ⟨_, rfl, _, _, by unfold oCopy; first | rw [if_pos c6] | (rw [if_neg (fun z => z c6)]; first | rw [if_pos c15] | (rw [if_neg (fun z => z c15)]; first | rw [if_pos c28] | (rw [if_neg c28]; first | rw [if_pos c38] | (rw [if_neg c38]; first | rw [if_pos c56] | (rw [if_neg (fun z => z c56)]; first | rw [if_pos c63] | (rw [if_neg c63]; first | rw [if_pos c68] | (rw [if_neg c68]; first | rw [if_pos c73] | (rw [if_neg c73]; first | rw [if_pos ((lg_cmp_gt _ _).mp c90)] | (rw [if_neg (fun z => c90 ((lg_cmp_gt _ _).mpr z)), if_pos (Int64.not_le.mp (fun z => c108 ((lg_cmp_le _ _).mpr z)))]))))))))), w⟩)
            · refine j_iload (pc := 66) hK dX8_copy_66 rfl ?_
              refine j_if_lt (pc := 68) (tgt := 111) hK dX8_copy_68 (by decide) (fun c68 => ?_) (fun c68 => ?_)
              · refine j_bipush (pc := 111) (v := (-12)) hK dX8_copy_111 (by decide) ?_
                exact j_iret (pc := 113) hK hQ (nle rfl) (nle rfl) dX8_copy_113 (fun h w => ⟨_, rfl, _, _, by unfold oCopy; first | rw [if_pos c6] | (rw [if_neg (fun z => z c6)]; first | rw [if_pos c15] | (rw [if_neg (fun z => z c15)]; first | rw [if_pos c28] | (rw [if_neg c28]; first | rw [if_pos c38] | (rw [if_neg c38]; first | rw [if_pos c56] | (rw [if_neg (fun z => z c56)]; first | rw [if_pos c63] | (rw [if_neg c63]; first | rw [if_pos c68] | (rw [if_neg c68]; first | rw [if_pos c73] | (rw [if_neg c73]; first | rw [if_pos ((lg_cmp_gt _ _).mp c90)] | (rw [if_neg (fun z => c90 ((lg_cmp_gt _ _).mpr z)), if_pos (Int64.not_le.mp (fun z => c108 ((lg_cmp_le _ _).mpr z)))]))))))))), w⟩)
              · refine j_iload (pc := 71) hK dX8_copy_71 rfl ?_
                refine j_if_lt (pc := 73) (tgt := 111) hK dX8_copy_73 (by decide) (fun c73 => ?_) (fun c73 => ?_)
                · refine j_bipush (pc := 111) (v := (-12)) hK dX8_copy_111 (by decide) ?_
                  exact j_iret (pc := 113) hK hQ (nle rfl) (nle rfl) dX8_copy_113 (fun h w => ⟨_, rfl, _, _, by unfold oCopy; first | rw [if_pos c6] | (rw [if_neg (fun z => z c6)]; first | rw [if_pos c15] | (rw [if_neg (fun z => z c15)]; first | rw [if_pos c28] | (rw [if_neg c28]; first | rw [if_pos c38] | (rw [if_neg c38]; first | rw [if_pos c56] | (rw [if_neg (fun z => z c56)]; first | rw [if_pos c63] | (rw [if_neg c63]; first | rw [if_pos c68] | (rw [if_neg c68]; first | rw [if_pos c73] | (rw [if_neg c73]; first | rw [if_pos ((lg_cmp_gt _ _).mp c90)] | (rw [if_neg (fun z => c90 ((lg_cmp_gt _ _).mpr z)), if_pos (Int64.not_le.mp (fun z => c108 ((lg_cmp_le _ _).mpr z)))]))))))))), w⟩)
                · refine j_iload_n (pc := 76) hK dX8_copy_76 rfl ?_
                  refine j_i2l (pc := 77) hK dX8_copy_77 ?_
                  refine j_iload (pc := 78) hK dX8_copy_78 rfl ?_
                  refine j_i2l (pc := 80) hK dX8_copy_80 ?_
                  refine j_ladd (pc := 81) hK dX8_copy_81 ?_
                  refine j_aload_n (pc := 82) hK dX8_copy_82 rfl ?_
                  refine yi_getR (pc := 83) (k := 37) hK (by decide) rfl q1277 rfl dX8_copy_83 ?_
                  refine j_iload_n (pc := 86) hK dX8_copy_86 rfl ?_
                  refine yi_ald (pc := 87) (k := 37) hK rfl rfl (by first | assumption | exact vp_in_c (by decide)) dX8_copy_87 ?_
                  refine j_i2l (pc := 88) hK dX8_copy_88 ?_
                  refine j_lcmp (pc := 89) hK dX8_copy_89 ?_
                  refine j_if_gt (pc := 90) (tgt := 111) hK dX8_copy_90 (by decide) (fun c90 => ?_) (fun c90 => ?_)
                  · refine j_bipush (pc := 111) (v := (-12)) hK dX8_copy_111 (by decide) ?_
                    exact j_iret (pc := 113) hK hQ (nle rfl) (nle rfl) dX8_copy_113 (fun h w => ⟨_, rfl, _, _, by unfold oCopy; first | rw [if_pos c6] | (rw [if_neg (fun z => z c6)]; first | rw [if_pos c15] | (rw [if_neg (fun z => z c15)]; first | rw [if_pos c28] | (rw [if_neg c28]; first | rw [if_pos c38] | (rw [if_neg c38]; first | rw [if_pos c56] | (rw [if_neg (fun z => z c56)]; first | rw [if_pos c63] | (rw [if_neg c63]; first | rw [if_pos c68] | (rw [if_neg c68]; first | rw [if_pos c73] | (rw [if_neg c73]; first | rw [if_pos ((lg_cmp_gt _ _).mp c90)] | (rw [if_neg (fun z => c90 ((lg_cmp_gt _ _).mpr z)), if_pos (Int64.not_le.mp (fun z => c108 ((lg_cmp_le _ _).mpr z)))]))))))))), w⟩)
                  · refine j_iload (pc := 93) hK dX8_copy_93 rfl ?_
                    refine j_i2l (pc := 95) hK dX8_copy_95 ?_
                    refine j_iload (pc := 96) hK dX8_copy_96 rfl ?_
                    refine j_i2l (pc := 98) hK dX8_copy_98 ?_
                    refine j_ladd (pc := 99) hK dX8_copy_99 ?_
                    refine j_aload_n (pc := 100) hK dX8_copy_100 rfl ?_
                    refine yi_getR (pc := 101) (k := 37) hK (by decide) rfl q1277 rfl dX8_copy_101 ?_
                    refine j_iload_n (pc := 104) hK dX8_copy_104 rfl ?_
                    refine yi_ald (pc := 105) (k := 37) hK rfl rfl (by first | assumption | exact vp_in_c (by decide)) dX8_copy_105 ?_
                    refine j_i2l (pc := 106) hK dX8_copy_106 ?_
                    refine j_lcmp (pc := 107) hK dX8_copy_107 ?_
                    refine j_if_le (pc := 108) (tgt := 114) hK dX8_copy_108 (by decide) (fun c108 => ?_) (fun c108 => ?_)
                    · have q1 : ¬ (g 37 s).toInt64 < i.toInt64 + n.toInt64 := fun z => c90 ((lg_cmp_gt _ _).mpr z)
                      have q2 : ¬ (g 37 o).toInt64 < j.toInt64 + n.toInt64 := Int64.not_lt.mpr ((lg_cmp_le _ _).mp c108)
                      obtain ⟨a, m, ea, em, h1, -⟩ := sum_le c63 c73 (hz s c6.1 c6.2).2 q1
                      obtain ⟨c, m', ec, em', h2, -⟩ := sum_le c68 c73 (hz o c15.1 c15.2).2 q2
                      have emm : m' = m := by rw [em, nI_eq (by omega) (by omega)] at em'; omega
                      subst emm
                      have hq : oCopy f g s i o j n = (n, f, cpS g (40 * s + i) (40 * o + j) m') := by
                        unfold oCopy
                        rw [if_neg (fun z => z c6), if_neg (fun z => z c15), if_neg c28, if_neg c38, if_neg (fun z => z c56), if_neg c63, if_neg c68, if_neg c73, if_neg q1, if_neg q2, em, nI_clamp (by omega)]
                      refine j_iconst (pc := 114) (v := 0) hK dX8_copy_114 (by decide) ?_
                      refine j_ist6 (pc := 115) hK dX8_copy_115 (by decide) rfl ?_
                      refine yi_open fun f1 g1 he ht => ?_
                      exact loop1 a c m' ea ec em h1 h2 c6 c15 hq m' 0 f1 g1 (by omega) he ht (fun q hq => by omega)
                    · refine j_bipush (pc := 111) (v := (-12)) hK dX8_copy_111 (by decide) ?_
                      exact j_iret (pc := 113) hK hQ (nle rfl) (nle rfl) dX8_copy_113 (fun h w => ⟨_, rfl, _, _, by unfold oCopy; first | rw [if_pos c6] | (rw [if_neg (fun z => z c6)]; first | rw [if_pos c15] | (rw [if_neg (fun z => z c15)]; first | rw [if_pos c28] | (rw [if_neg c28]; first | rw [if_pos c38] | (rw [if_neg c38]; first | rw [if_pos c56] | (rw [if_neg (fun z => z c56)]; first | rw [if_pos c63] | (rw [if_neg c63]; first | rw [if_pos c68] | (rw [if_neg c68]; first | rw [if_pos c73] | (rw [if_neg c73]; first | rw [if_pos ((lg_cmp_gt _ _).mp c90)] | (rw [if_neg (fun z => c90 ((lg_cmp_gt _ _).mpr z)), if_pos (Int64.not_le.mp (fun z => c108 ((lg_cmp_le _ _).mpr z)))]))))))))), w⟩)
          · refine j_bipush (pc := 59) (v := (-13)) hK dX8_copy_59 (by decide) ?_
            exact j_iret (pc := 61) hK hQ (nle rfl) (nle rfl) dX8_copy_61 (fun h w => ⟨_, rfl, _, _, by unfold oCopy; first | rw [if_pos c6] | (rw [if_neg (fun z => z c6)]; first | rw [if_pos c15] | (rw [if_neg (fun z => z c15)]; first | rw [if_pos c28] | (rw [if_neg c28]; first | rw [if_pos c38] | (rw [if_neg c38]; first | rw [if_pos c56] | (rw [if_neg (fun z => z c56)]; first | rw [if_pos c63] | (rw [if_neg c63]; first | rw [if_pos c68] | (rw [if_neg c68]; first | rw [if_pos c73] | (rw [if_neg c73]; first | rw [if_pos ((lg_cmp_gt _ _).mp c90)] | (rw [if_neg (fun z => c90 ((lg_cmp_gt _ _).mpr z)), if_pos (Int64.not_le.mp (fun z => c108 ((lg_cmp_le _ _).mpr z)))]))))))))), w⟩)
        · refine j_bipush (pc := 41) (v := (-11)) hK dX8_copy_41 (by decide) ?_
          exact j_iret (pc := 43) hK hQ (nle rfl) (nle rfl) dX8_copy_43 (fun h w => ⟨_, rfl, _, _, by unfold oCopy; first | rw [if_pos c6] | (rw [if_neg (fun z => z c6)]; first | rw [if_pos c15] | (rw [if_neg (fun z => z c15)]; first | rw [if_pos c28] | (rw [if_neg c28]; first | rw [if_pos c38] | (rw [if_neg c38]; first | rw [if_pos c56] | (rw [if_neg (fun z => z c56)]; first | rw [if_pos c63] | (rw [if_neg c63]; first | rw [if_pos c68] | (rw [if_neg c68]; first | rw [if_pos c73] | (rw [if_neg c73]; first | rw [if_pos ((lg_cmp_gt _ _).mp c90)] | (rw [if_neg (fun z => c90 ((lg_cmp_gt _ _).mpr z)), if_pos (Int64.not_le.mp (fun z => c108 ((lg_cmp_le _ _).mpr z)))]))))))))), w⟩)
    · refine j_bipush (pc := 18) (v := (-2)) hK dX8_copy_18 (by decide) ?_
      exact j_iret (pc := 20) hK hQ (nle rfl) (nle rfl) dX8_copy_20 (fun h w => ⟨_, rfl, _, _, by unfold oCopy; first | rw [if_pos c6] | (rw [if_neg (fun z => z c6)]; first | rw [if_pos c15] | (rw [if_neg (fun z => z c15)]; first | rw [if_pos c28] | (rw [if_neg c28]; first | rw [if_pos c38] | (rw [if_neg c38]; first | rw [if_pos c56] | (rw [if_neg (fun z => z c56)]; first | rw [if_pos c63] | (rw [if_neg c63]; first | rw [if_pos c68] | (rw [if_neg c68]; first | rw [if_pos c73] | (rw [if_neg c73]; first | rw [if_pos ((lg_cmp_gt _ _).mp c90)] | (rw [if_neg (fun z => c90 ((lg_cmp_gt _ _).mpr z)), if_pos (Int64.not_le.mp (fun z => c108 ((lg_cmp_le _ _).mpr z)))]))))))))), w⟩)
theorem bs_i {fr : Int32} {k : Nat} {z : Int32} (hk : k ≤ 7) (h1 : ¬ bsI fr k < 0) (h2 : bsI fr k + 2 < z.toInt64) (hz : z ≤ 40) : ∃ t : Nat, t + 2 < 40 ∧ (bsI fr k).toInt32 = nI t := by
  obtain ⟨q, hq, e⟩ := pk_lOf h1
  rw [e] at h2
  have h3 := Int32.le_iff_toInt_le.mp hz
  have h4 : (40 : Int32).toInt = 40 := by decide
  have h5 := Int64.lt_iff_toInt_lt.mp h2
  rw [Int32.toInt_toInt64] at h5
  have hb : (bsI fr k).toInt ≤ 2 ^ 31 + 30 := by
    unfold bsI
    have : (fr.toInt64 + 3 * (nI k).toInt64).toInt = fr.toInt + 3 * k := by
      rw [nI_l (by omega), show (3 : Int64) = lN 3 by decide, lN_mul]
      rw [Int64.toInt_add, Int32.toInt_toInt64, pk_lT (by omega)]
      have a1 := Int32.toInt_lt fr
      have a2 := Int32.le_toInt fr
      rw [Int.bmod_eq_of_le (by omega) (by omega)]
      push_cast
      omega
    rw [this]
    have a1 := Int32.toInt_lt fr
    omega
  rw [e, pk_lT hq] at hb
  have h6 : (lN q + 2).toInt = q + 2 := by
    rw [show (2 : Int64) = lN 2 by decide, lN_add, pk_lT (by omega)]
    push_cast
    omega
  rw [h6] at h5
  exact ⟨q, by omega, by rw [e, lN_i]⟩
theorem c_Yboats (sh sort fr n : Int32) (h0 : 0 ≤ f 0) (h7 : f 0 ≤ 7) (hz : ∀ s, 0 ≤ s → s ≤ 3 → 0 ≤ g 37 s ∧ g 37 s ≤ 40) : Ct Γ A yX8_boats wX8_boats 3 0 0 [.ref (L 40), .int sh, .int sort, .int fr, .int n] (YI Γ L f g T) (RI (YO Γ L T (oBoats f g sh sort fr n))) := by
  refine Ct.of (cc := cX8_boats) (nL := 10) (ret := (some .int)) (ls := [some (.ref (L 40)), some (.int sh), some (.int sort), some (.int fr), some (.int n), none, none, none, none, none]) rfl rfl rfl (nle rfl) ?_
  intro K hK hQ
  have loop : ∀ m : Nat, n = nI m → m ≤ 7 → (0 ≤ sh ∧ sh ≤ 3) → ∀ (r k : Nat) (f1 : Nat → Int32) (g1 : Nat → Int32 → Int32) (came : Int32), k + r = m → 0 ≤ f1 0 → f1 0 ≤ 7 → (0 ≤ g1 37 sh ∧ g1 37 sh ≤ 40) → bsL sh fr r k f1 g1 came = oBoats f g sh sort fr n → J Γ A K 64 [some (.ref (L 40)), some (.int sh), some (.int sort), some (.int fr), some (.int n), some (.int came), some (.int (nI k)), none, none, none] [] (YI Γ L f1 g1 T) 0 0 := by
    intro m em hm hsh r
    induction r with
    | zero =>
      intro k f1 g1 came hk a0 a7 az hp
      refine j_iload (pc := 64) hK dX8_boats_64 rfl ?_
      refine j_iload (pc := 66) hK dX8_boats_66 rfl ?_
      refine j_icmp_ge (pc := 68) (tgt := 161) hK dX8_boats_68 (by decide) (fun c68 => ?_) (fun c68 => absurd (by rw [em]; exact nI_le (by omega) (by omega)) c68)
      refine j_iload (pc := 161) hK dX8_boats_161 rfl ?_
      exact j_iret (pc := 163) hK hQ (nle rfl) (nle rfl) dX8_boats_163 (fun h w => ⟨_, rfl, _, _, hp.symm, w⟩)
    | succ r ih =>
      intro k f1 g1 came hk a0 a7 az hp
      have hs4 := sh_in hsh
      have hstep : bsL sh fr (r + 1) k f1 g1 came = if bsI fr k < 0 then (-12, f1, g1) else if (g1 37 sh).toInt64 ≤ bsI fr k + 2 then (-12, f1, g1) else bsL sh fr r (k + 1) (oBoat f1 g1 (g1 38 (40 * sh + (bsI fr k).toInt32)) (g1 38 (40 * sh + (bsI fr k).toInt32 + 1)) (g1 38 (40 * sh + (bsI fr k).toInt32 + 2))).2.1 (oBoat f1 g1 (g1 38 (40 * sh + (bsI fr k).toInt32)) (g1 38 (40 * sh + (bsI fr k).toInt32 + 1)) (g1 38 (40 * sh + (bsI fr k).toInt32 + 2))).2.2 (if (oBoat f1 g1 (g1 38 (40 * sh + (bsI fr k).toInt32)) (g1 38 (40 * sh + (bsI fr k).toInt32 + 1)) (g1 38 (40 * sh + (bsI fr k).toInt32 + 2))).1 < 0 then came else came + 1) := rfl
      refine j_iload (pc := 64) hK dX8_boats_64 rfl ?_
      refine j_iload (pc := 66) hK dX8_boats_66 rfl ?_
      refine j_icmp_ge (pc := 68) (tgt := 161) hK dX8_boats_68 (by decide) (fun c68 => absurd c68 (by rw [em]; exact nI_ge (by omega) (by omega))) (fun c68 => ?_)
      refine j_iload_n (pc := 71) hK dX8_boats_71 rfl ?_
      refine j_i2l (pc := 72) hK dX8_boats_72 ?_
      refine j_ldc2 (pc := 73) hK q1538 dX8_boats_73 ?_
      refine j_iload (pc := 76) hK dX8_boats_76 rfl ?_
      refine j_i2l (pc := 78) hK dX8_boats_78 ?_
      refine j_lmul (pc := 79) hK dX8_boats_79 ?_
      refine j_ladd (pc := 80) hK dX8_boats_80 ?_
      refine J.name (F := fun z => J Γ A K (80 + 1) _ (.long z :: _) _ _ _) _ (fun iz eiz => ?_)
      have eiz : iz = bsI fr k := eiz
      refine j_lst7 (pc := 81) hK dX8_boats_81 (by decide) rfl ?_
      refine j_lload (pc := 83) hK dX8_boats_83 rfl ?_
      refine j_lconst (pc := 85) (v := 0) hK dX8_boats_85 (by decide) ?_
      refine j_lcmp (pc := 86) hK dX8_boats_86 ?_
      refine j_if_lt (pc := 87) (tgt := 107) hK dX8_boats_87 (by decide) (fun c87 => ?_) (fun c87 => ?_)
      · have hm12 : oBoats f g sh sort fr n = (-12, f1, g1) := by
          rw [← hp, hstep, ← eiz]
          first
            | rw [if_pos ((lg_cmp_lt _ _).mp c87)]
            | rw [if_neg (fun z => c87 ((lg_cmp_lt _ _).mpr z)), if_pos (Int64.not_lt.mp (fun z => c104 ((lg_cmp_lt _ _).mpr z)))]
        refine j_bipush (pc := 107) (v := (-12)) hK dX8_boats_107 (by decide) ?_
        exact j_iret (pc := 109) hK hQ (nle rfl) (nle rfl) dX8_boats_109 (fun h w => ⟨_, rfl, _, _, hm12, w⟩)
      · refine j_lload (pc := 90) hK dX8_boats_90 rfl ?_
        refine j_ldc2 (pc := 92) hK q1539 dX8_boats_92 ?_
        refine j_ladd (pc := 95) hK dX8_boats_95 ?_
        refine j_aload_n (pc := 96) hK dX8_boats_96 rfl ?_
        refine yi_getR (pc := 97) (k := 37) hK (by decide) rfl q1277 rfl dX8_boats_97 ?_
        refine j_iload_n (pc := 100) hK dX8_boats_100 rfl ?_
        refine yi_ald (pc := 101) (k := 37) hK rfl rfl (by first | assumption | exact vp_in_c (by decide)) dX8_boats_101 ?_
        refine j_i2l (pc := 102) hK dX8_boats_102 ?_
        refine j_lcmp (pc := 103) hK dX8_boats_103 ?_
        refine j_if_lt (pc := 104) (tgt := 110) hK dX8_boats_104 (by decide) (fun c104 => ?_) (fun c104 => ?_)
        · have q1 : ¬ iz < 0 := fun z => c87 ((lg_cmp_lt _ _).mpr z)
          have q2 : iz + 2 < (g1 37 sh).toInt64 := (lg_cmp_lt _ _).mp c104
          obtain ⟨t, ht, et⟩ := bs_i (fr := fr) (k := k) (by omega) (by rw [← eiz]; exact q1) (by rw [← eiz]; exact q2) az.2
          rw [hstep, if_neg (by rw [← eiz]; exact q1), if_neg (Int64.not_le.mpr (by rw [← eiz]; exact q2)), ← eiz] at hp
          rw [← eiz] at et
          have hb0 : vp_in (40 * sh + iz.toInt32) 160 := by rw [et]; exact it_in hsh (by omega)
          have hb1 : vp_in (40 * sh + iz.toInt32 + 1) 160 := by
            obtain ⟨kk, hkk, -, e⟩ := it_nI hsh
            rw [et, e, nI_1]; exact vp_in_nI (by omega) (by decide)
          have hb2 : vp_in (40 * sh + iz.toInt32 + 2) 160 := by
            obtain ⟨kk, hkk, -, e⟩ := it_nI hsh
            rw [et, e, show (2 : Int32) = nI 2 by decide, nI_add]; exact vp_in_nI (by omega) (by decide)
          refine j_bipush (pc := 110) (v := 40) hK dX8_boats_110 (by decide) ?_
          refine j_iload_n (pc := 112) hK dX8_boats_112 rfl ?_
          refine j_imul (pc := 113) hK dX8_boats_113 ?_
          refine j_lload (pc := 114) hK dX8_boats_114 rfl ?_
          refine j_l2i (pc := 116) hK dX8_boats_116 ?_
          refine j_iadd (pc := 117) hK dX8_boats_117 ?_
          refine j_ist9 (pc := 118) hK dX8_boats_118 (by decide) rfl ?_
          refine j_aload_n (pc := 120) hK dX8_boats_120 rfl ?_
          refine j_aload_n (pc := 121) hK dX8_boats_121 rfl ?_
          refine yi_getR (pc := 122) (k := 38) hK (by decide) rfl q1278 rfl dX8_boats_122 ?_
          refine j_iload (pc := 125) hK dX8_boats_125 rfl ?_
          refine yi_ald (pc := 127) (k := 38) hK rfl rfl hb0 dX8_boats_127 ?_
          refine j_aload_n (pc := 128) hK dX8_boats_128 rfl ?_
          refine yi_getR (pc := 129) (k := 38) hK (by decide) rfl q1278 rfl dX8_boats_129 ?_
          refine j_iload (pc := 132) hK dX8_boats_132 rfl ?_
          refine j_iconst (pc := 134) (v := 1) hK dX8_boats_134 (by decide) ?_
          refine j_iadd (pc := 135) hK dX8_boats_135 ?_
          refine yi_ald (pc := 136) (k := 38) hK rfl rfl hb1 dX8_boats_136 ?_
          refine j_aload_n (pc := 137) hK dX8_boats_137 rfl ?_
          refine yi_getR (pc := 138) (k := 38) hK (by decide) rfl q1278 rfl dX8_boats_138 ?_
          refine j_iload (pc := 141) hK dX8_boats_141 rfl ?_
          refine j_iconst (pc := 143) (v := 2) hK dX8_boats_143 (by decide) ?_
          refine j_iadd (pc := 144) hK dX8_boats_144 ?_
          refine yi_ald (pc := 145) (k := 38) hK rfl rfl hb2 dX8_boats_145 ?_
          refine j_callV (pc := 146) hK hQ (c_Yboat _ _ _ a0 a7) cal_X8_boat yi_isC q1540 dX8_boats_146 rfl rfl (nle rfl) (nle rfl) (nle rfl) (nle rfl) (kr_i fun r146 => ?_) kx_i
          refine J.ex fun f2 => J.ex fun g2 => J.pre fun e146 => ?_
          rw [e146] at hp
          have k0 := oB_0 (g := g1) (a := g1 38 (40 * sh + iz.toInt32)) (b := g1 38 (40 * sh + iz.toInt32 + 1)) (c := g1 38 (40 * sh + iz.toInt32 + 2)) a0 a7
          have kz := oB_g (f := f1) (g := g1) (a := g1 38 (40 * sh + iz.toInt32)) (b := g1 38 (40 * sh + iz.toInt32 + 1)) (c := g1 38 (40 * sh + iz.toInt32 + 2)) (Or.inr (Or.inl rfl)) sh
          rw [e146] at k0 kz
          have kz : g2 37 sh = g1 37 sh := kz
          refine j_if_lt (pc := 149) (tgt := 155) hK dX8_boats_149 (by decide) (fun c149 => ?_) (fun c149 => ?_)
          · refine j_iinc6 (pc := 155) (v := 1) hK dX8_boats_155 (by decide) rfl (by decide) ?_
            refine j_goto (pc := 158) (tgt := 64) hK dX8_boats_158 (by decide) ?_
            rw [nI_1]
            first
              | (refine J.fg _ ?_ (ih (k + 1) f2 g2 came (by omega) k0.1 k0.2 (by rw [kz]; exact az) (by rw [← hp]; show _ = bsL sh fr r (k + 1) f2 g2 (if r146 < 0 then came else came + 1); rw [if_pos c149])); exact ⟨rfl, rfl, rfl, rfl, rfl, rfl, rfl, trivial⟩)
              | (refine J.fg _ ?_ (ih (k + 1) f2 g2 (came + 1) (by omega) k0.1 k0.2 (by rw [kz]; exact az) (by rw [← hp]; show _ = bsL sh fr r (k + 1) f2 g2 (if r146 < 0 then came else came + 1); rw [if_neg c149])); exact ⟨rfl, rfl, rfl, rfl, rfl, rfl, rfl, trivial⟩)
          · refine j_iinc5 (pc := 152) (v := 1) hK dX8_boats_152 (by decide) rfl (by decide) ?_
            refine j_iinc6 (pc := 155) (v := 1) hK dX8_boats_155 (by decide) rfl (by decide) ?_
            refine j_goto (pc := 158) (tgt := 64) hK dX8_boats_158 (by decide) ?_
            rw [nI_1]
            first
              | (refine J.fg _ ?_ (ih (k + 1) f2 g2 came (by omega) k0.1 k0.2 (by rw [kz]; exact az) (by rw [← hp]; show _ = bsL sh fr r (k + 1) f2 g2 (if r146 < 0 then came else came + 1); rw [if_pos c149])); exact ⟨rfl, rfl, rfl, rfl, rfl, rfl, rfl, trivial⟩)
              | (refine J.fg _ ?_ (ih (k + 1) f2 g2 (came + 1) (by omega) k0.1 k0.2 (by rw [kz]; exact az) (by rw [← hp]; show _ = bsL sh fr r (k + 1) f2 g2 (if r146 < 0 then came else came + 1); rw [if_neg c149])); exact ⟨rfl, rfl, rfl, rfl, rfl, rfl, rfl, trivial⟩)
        · have hm12 : oBoats f g sh sort fr n = (-12, f1, g1) := by
            rw [← hp, hstep, ← eiz]
            first
              | rw [if_pos ((lg_cmp_lt _ _).mp c87)]
              | rw [if_neg (fun z => c87 ((lg_cmp_lt _ _).mpr z)), if_pos (Int64.not_lt.mp (fun z => c104 ((lg_cmp_lt _ _).mpr z)))]
          refine j_bipush (pc := 107) (v := (-12)) hK dX8_boats_107 (by decide) ?_
          exact j_iret (pc := 109) hK hQ (nle rfl) (nle rfl) dX8_boats_109 (fun h w => ⟨_, rfl, _, _, hm12, w⟩)
  refine j_iload_n (pc := 0) hK dX8_boats_0 rfl ?_
  refine j_iconst (pc := 1) (v := 0) hK dX8_boats_1 (by decide) ?_
  refine j_iconst (pc := 2) (v := 3) hK dX8_boats_2 (by decide) ?_
  refine j_callS (pc := 3) hK hQ (c_Ywithin _ _ _) cal_X8_within q1167 dX8_boats_3 rfl rfl (nle rfl) (nle rfl) (nle rfl) (nle rfl) (kr_i fun r3 => ?_) kx_i
  refine J.pre fun e3 => ?_
  subst e3
  refine j_if_eq_b (pc := 6) (tgt := 29) hK dX8_boats_6 (by decide) (fun c6 => ?_) (fun c6 => ?_)
  · refine j_bipush (pc := 29) (v := (-2)) hK dX8_boats_29 (by decide) ?_
    exact j_iret (pc := 31) hK hQ (nle rfl) (nle rfl) dX8_boats_31 (fun h w => ⟨_, rfl, _, _, by unfold oBoats; first | rw [if_pos c6] | (rw [if_neg (fun z => z c6)]; first | rw [if_pos c15] | (rw [if_neg (fun z => z c15)]; first | rw [if_pos c26] | (rw [if_neg (fun z => z c26)]; first | rw [if_pos c39] | (rw [if_neg c39]; rw [if_pos c52])))), w⟩)
  · refine j_iload_n (pc := 9) hK dX8_boats_9 rfl ?_
    refine j_iconst (pc := 10) (v := 0) hK dX8_boats_10 (by decide) ?_
    refine j_iconst (pc := 11) (v := 2) hK dX8_boats_11 (by decide) ?_
    refine j_callS (pc := 12) hK hQ (c_Ywithin _ _ _) cal_X8_within q1167 dX8_boats_12 rfl rfl (nle rfl) (nle rfl) (nle rfl) (nle rfl) (kr_i fun r12 => ?_) kx_i
    refine J.pre fun e12 => ?_
    subst e12
    refine j_if_eq_b (pc := 15) (tgt := 29) hK dX8_boats_15 (by decide) (fun c15 => ?_) (fun c15 => ?_)
    · refine j_bipush (pc := 29) (v := (-2)) hK dX8_boats_29 (by decide) ?_
      exact j_iret (pc := 31) hK hQ (nle rfl) (nle rfl) dX8_boats_31 (fun h w => ⟨_, rfl, _, _, by unfold oBoats; first | rw [if_pos c6] | (rw [if_neg (fun z => z c6)]; first | rw [if_pos c15] | (rw [if_neg (fun z => z c15)]; first | rw [if_pos c26] | (rw [if_neg (fun z => z c26)]; first | rw [if_pos c39] | (rw [if_neg c39]; rw [if_pos c52])))), w⟩)
    · refine j_iload (pc := 18) hK dX8_boats_18 rfl ?_
      refine j_iconst (pc := 20) (v := 0) hK dX8_boats_20 (by decide) ?_
      refine j_bipush (pc := 21) (v := 7) hK dX8_boats_21 (by decide) ?_
      refine j_callS (pc := 23) hK hQ (c_Ywithin _ _ _) cal_X8_within q1167 dX8_boats_23 rfl rfl (nle rfl) (nle rfl) (nle rfl) (nle rfl) (kr_i fun r23 => ?_) kx_i
      refine J.pre fun e23 => ?_
      subst e23
      refine j_if_ne_b (pc := 26) (tgt := 32) hK dX8_boats_26 (by decide) (fun c26 => ?_) (fun c26 => ?_)
      · have hb1 := sh_in c6
        refine j_aload_n (pc := 32) hK dX8_boats_32 rfl ?_
        refine yi_getR (pc := 33) (k := 36) hK (by decide) rfl q1276 rfl dX8_boats_33 ?_
        refine j_iload_n (pc := 36) hK dX8_boats_36 rfl ?_
        refine yi_ald (pc := 37) (k := 36) hK rfl rfl (by first | assumption | exact vp_in_c (by decide)) dX8_boats_37 ?_
        refine j_iconst (pc := 38) (v := (-1)) hK dX8_boats_38 (by decide) ?_
        refine j_icmp_ne (pc := 39) (tgt := 45) hK dX8_boats_39 (by decide) (fun c39 => ?_) (fun c39 => ?_)
        · refine j_aload_n (pc := 45) hK dX8_boats_45 rfl ?_
          refine yi_getR (pc := 46) (k := 36) hK (by decide) rfl q1276 rfl dX8_boats_46 ?_
          refine j_iload_n (pc := 49) hK dX8_boats_49 rfl ?_
          refine yi_ald (pc := 50) (k := 36) hK rfl rfl (by first | assumption | exact vp_in_c (by decide)) dX8_boats_50 ?_
          refine j_iload_n (pc := 51) hK dX8_boats_51 rfl ?_
          refine j_icmp_eq (pc := 52) (tgt := 58) hK dX8_boats_52 (by decide) (fun c52 => ?_) (fun c52 => ?_)
          · obtain ⟨m, hm, em⟩ := nI_of2 (x := n) (M := 7) (n := 7) (by decide) (Int32.not_lt.mpr c26.1) c26.2
            refine j_iconst (pc := 58) (v := 0) hK dX8_boats_58 (by decide) ?_
            refine j_ist5 (pc := 59) hK dX8_boats_59 (by decide) rfl ?_
            refine j_iconst (pc := 61) (v := 0) hK dX8_boats_61 (by decide) ?_
            refine j_ist6 (pc := 62) hK dX8_boats_62 (by decide) rfl ?_
            exact loop m em hm c6 m 0 f g 0 (by omega) h0 h7 (hz sh c6.1 c6.2) (by unfold oBoats; rw [if_neg (fun z => z c6), if_neg (fun z => z c15), if_neg (fun z => z c26), if_neg c39, if_neg (fun z => z c52), em, nI_clamp (by omega)])
          · refine j_bipush (pc := 55) (v := (-13)) hK dX8_boats_55 (by decide) ?_
            exact j_iret (pc := 57) hK hQ (nle rfl) (nle rfl) dX8_boats_57 (fun h w => ⟨_, rfl, _, _, by unfold oBoats; first | rw [if_pos c6] | (rw [if_neg (fun z => z c6)]; first | rw [if_pos c15] | (rw [if_neg (fun z => z c15)]; first | rw [if_pos c26] | (rw [if_neg (fun z => z c26)]; first | rw [if_pos c39] | (rw [if_neg c39]; rw [if_pos c52])))), w⟩)
        · refine j_bipush (pc := 42) (v := (-11)) hK dX8_boats_42 (by decide) ?_
          exact j_iret (pc := 44) hK hQ (nle rfl) (nle rfl) dX8_boats_44 (fun h w => ⟨_, rfl, _, _, by unfold oBoats; first | rw [if_pos c6] | (rw [if_neg (fun z => z c6)]; first | rw [if_pos c15] | (rw [if_neg (fun z => z c15)]; first | rw [if_pos c26] | (rw [if_neg (fun z => z c26)]; first | rw [if_pos c39] | (rw [if_neg c39]; rw [if_pos c52])))), w⟩)
      · refine j_bipush (pc := 29) (v := (-2)) hK dX8_boats_29 (by decide) ?_
        exact j_iret (pc := 31) hK hQ (nle rfl) (nle rfl) dX8_boats_31 (fun h w => ⟨_, rfl, _, _, by unfold oBoats; first | rw [if_pos c6] | (rw [if_neg (fun z => z c6)]; first | rw [if_pos c15] | (rw [if_neg (fun z => z c15)]; first | rw [if_pos c26] | (rw [if_neg (fun z => z c26)]; first | rw [if_pos c39] | (rw [if_neg c39]; rw [if_pos c52])))), w⟩)
end Y12
