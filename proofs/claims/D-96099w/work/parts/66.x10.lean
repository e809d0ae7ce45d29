/-! the class: stand -/
set_option maxRecDepth 100000
section P66
variable {f : Nat → Int32} {g : Nat → Int32 → Int32} {T : TX}
theorem StM.congr {g g' : Nat → Int32 → Int32} (h : ∀ j, g 32 j = g' 32 j) : ∀ {S : List Int32}, StM g S → StM g' S := by
  intro S
  induction S with
  | nil => intro w; exact w
  | cons v S ih => intro w; exact ⟨(h _).symm.trans w.1, ih w.2⟩
/-- the row of waits, the minute taken off -/
def WF (m : Int32) (S : List Int32) : XD → Prop := fun x => StM (fun _ i => x.q 29 i + m) S
theorem sub_add' (v m : Int32) : v - m + m = v := by grind
theorem add_sub' {v m w : Int32} (h : w + m = v) : w = v - m := by grind
theorem WF.put {m v : Int32} {n : Nat} {S S' : List Int32} (x : XD) (h : StM (ug (fun _ i => x.q 29 i + m) 32 (nI n) v) S') : WF m S' (xpA x 29 (nI n) (v - m)) := by
  refine StM.congr (fun j => ?_) h
  show ug (fun _ i => x.q 29 i + m) 32 (nI n) v 32 j = ug x.q 29 (nI n) (v - m) 29 j + m
  by_cases e : j = nI n
  · subst e
    rw [ug_s, ug_s, sub_add']
  · rw [ug_i _ _ _ e, ug_i _ _ _ e]
theorem StM.hd {g : Nat → Int32 → Int32} {x : Int32} {D : List Int32} : ∀ U : List Int32, StM g (U ++ x :: D) → g 32 (nI D.length) = x := by
  intro U
  induction U with
  | nil => intro h; exact h.1
  | cons a t iht => intro h; exact iht h.2
theorem ins_mem {v x : Int32} : ∀ {R : List Int32}, x ∈ insR v R → x = v ∨ x ∈ R := by
  intro R
  induction R with
  | nil => intro h; simp [insR] at h; exact Or.inl h
  | cons a t ih =>
    intro h
    unfold insR at h
    split at h
    · rcases List.mem_cons.mp h with z | z
      · exact Or.inr (by rw [z]; exact List.mem_cons_self)
      · exact (ih z).imp id (List.mem_cons_of_mem _)
    · rcases List.mem_cons.mp h with z | z
      · exact Or.inl z
      · exact Or.inr z
theorem stL_bd {nb : Nat} (hn : nb ≤ 7) (e0 : f 0 = nI nb) (hV : XV f g T) : ∀ i, i ≤ nb → ∀ x ∈ stL f g T i, ∃ a, a ≤ 99999 ∧ x = nI a := by
  intro i
  induction i with
  | zero => intro _ x h; cases h
  | succ i ih =>
    intro hi x h
    by_cases c : wbiI f g T (nI i) < 0
    · rw [stL_n c] at h
      exact ih (by omega) x h
    · rw [stL_p c] at h
      rcases ins_mem h with z | z
      · rcases wbi_x hV (bo_nI e0 (show i < nb by omega) hn) with e | ⟨m, hm, e⟩
        · rw [e] at c; exact absurd (by decide) c
        · exact ⟨m, hm, z.trans e⟩
      · exact ih (by omega) x z
theorem off_le {x v : Int32} {a b m : Nat} (ha : a ≤ 99999) (hb : b ≤ 99999) (hm : m ≤ 9999) (ex : x = nI a) (ev : v = nI b) : x - nI m ≤ v - nI m ↔ ¬ v < x := by
  rw [ex, ev, Int32.le_iff_toInt_le, Int32.lt_iff_toInt_lt, nI_sub_toInt (by omega) (by omega), nI_sub_toInt (by omega) (by omega), nI_toInt (by omega), nI_toInt (by omega)]
  omega
theorem WF.cons {m : Int32} {S : List Int32} {x : XD} (e : WF m S x) : WF m ((x.q 29 (nI S.length) + m) :: S) x := by
  unfold WF at e ⊢
  exact ⟨rfl, e⟩
end P66
section X66
variable {Γ : Gam} {A : Nat → Prop} {L : Nat → Nat} {f : Nat → Int32} {g : Nat → Int32 → Int32} {T : TX} {P : PH → Prop}
theorem xi_ex {S : Type} {φ : S → XD → Prop} {K : JC} {pc : Nat} {ls : List (Option Value)} {st : List Value} {cs ss : Nat} (k : ∀ z, J Γ A K pc ls st (XI Γ L f g T (φ z)) cs ss) : J Γ A K pc ls st (XI Γ L f g T (fun x => ∃ z, φ z x)) cs ss := fun h H locs arr ⟨x, w, r, t, s, z, e⟩ hR hL => k z h H locs arr ⟨x, w, r, t, s, e⟩ hR hL
theorem c_Xstand {nb : Nat} (hn : nb ≤ 7) (e0 : f 0 = nI nb) (hV : XV f g T) : Ct Γ A yX0_stand wX0_stand 175 0 0 [.ref (L 35)] (XI Γ L f g T TT) (RI fun r h => r = oStand f g T nb ∧ XI Γ L f g T TT h) := by
  have hN := hV.1.w
  have ho := hV.2.2
  obtain ⟨wt, hwt, ewt⟩ := nI_of2 (x := f 13) (M := 20) (n := 20) (by decide) (Int32.not_lt.mpr hV.1.2.2.2.2.2.2.2.2.2.2.2.2.1) hV.1.2.2.2.2.2.2.2.2.2.2.2.2.2.1
  obtain ⟨mm, hmm, em⟩ := f10_nI hV
  refine Ct.of (cc := cX0_stand) (nL := 5) (ret := (some .int)) (ls := [some (.ref (L 35)), none, none, none, none]) rfl rfl rfl (nle rfl) ?_
  intro K hK hQ
  have loop2 : ∀ (R : List Int32), R = stL f g T nb → ∀ (r i : Nat), i + r = wt → J Γ A K 97 [some (.ref (L 35)), some (.int (nI R.length)), some (.int (sumS f R i)), some (.int (nI i)), none] [] (XI Γ L f g T (WF (f 10) R)) 0 0 := by
    intro R eR r
    have hlen : R.length ≤ 7 := by rw [eR]; have := stL_len (f := f) (g := g) (T := T) nb; omega
    induction r with
    | zero =>
      intro i hi
      have : i = wt := by omega
      subst this
      refine j_iload_n (pc := 97) hK dX0_stand_97 rfl ?_
      refine j_aload_n (pc := 98) hK dX0_stand_98 rfl ?_
      refine xi_getR (pc := 99) (k := 7) hK (fun _ w => w) (by decide) rfl q756 rfl dX0_stand_99 ?_
      refine j_iconst (pc := 102) (v := 4) hK dX0_stand_102 (by decide) ?_
      refine xi_aldL (pc := 103) (i := 4) (n := 13) hK (fun _ w => w) (by decide) rfl (by decide) dX0_stand_103 ?_
      refine j_icmp_ge (pc := 104) (tgt := 133) hK dX0_stand_104 (by decide) (fun c104 => ?_) (fun c104 => absurd (by rw [ewt]; exact nI_le (by omega) (by omega)) c104)
      refine j_iload_n (pc := 133) hK dX0_stand_133 rfl ?_
      exact j_iret (pc := 134) hK hQ (nle rfl) (nle rfl) dX0_stand_134 (fun h w => ⟨_, rfl, by unfold oStand; rw [ewt, nI_clamp (by omega), ← eR], xi_mono (fun _ _ => trivial) _ w⟩)
    | succ r ih =>
      intro i hi
      refine j_iload_n (pc := 97) hK dX0_stand_97 rfl ?_
      refine j_aload_n (pc := 98) hK dX0_stand_98 rfl ?_
      refine xi_getR (pc := 99) (k := 7) hK (fun _ w => w) (by decide) rfl q756 rfl dX0_stand_99 ?_
      refine j_iconst (pc := 102) (v := 4) hK dX0_stand_102 (by decide) ?_
      refine xi_aldL (pc := 103) (i := 4) (n := 13) hK (fun _ w => w) (by decide) rfl (by decide) dX0_stand_103 ?_
      refine j_icmp_ge (pc := 104) (tgt := 133) hK dX0_stand_104 (by decide) (fun c104 => absurd c104 (by rw [ewt]; exact nI_ge (by omega) (by omega))) (fun c104 => ?_)
      refine j_iload_n (pc := 107) hK dX0_stand_107 rfl ?_
      refine j_iload_n (pc := 108) hK dX0_stand_108 rfl ?_
      refine j_iload_n (pc := 109) hK dX0_stand_109 rfl ?_
      refine j_icmp_ge (pc := 110) (tgt := 122) hK dX0_stand_110 (by decide) (fun c110 => ?_) (fun c110 => ?_)
      · refine j_sipush (pc := 122) (v := 240) hK dX0_stand_122 (by decide) ?_
        refine j_iadd (pc := 125) hK dX0_stand_125 ?_
        refine j_ist2 (pc := 126) hK dX0_stand_126 (by decide) rfl ?_
        refine j_iinc3 (pc := 127) (v := 1) hK dX0_stand_127 (by decide) rfl (by decide) ?_
        refine j_goto (pc := 130) (tgt := 97) hK dX0_stand_130 (by decide) ?_
        rw [nI_1]
        first
          | (rw [show sumS f R i + (R.reverse.getD i 0 - f 10) = sumS f R (i + 1) from (congrArg (sumS f R i + ·) (if_pos hlt)).symm]; exact ih (i + 1) (by omega))
          | (rw [show sumS f R i + 240 = sumS f R (i + 1) from (congrArg (sumS f R i + ·) (if_neg (fun z => absurd c110 (nI_ge z (by omega))))).symm]; exact ih (i + 1) (by omega))
      · have hlt : i < R.length := Nat.lt_of_not_le (fun z => c110 (nI_le z (by omega)))
        refine j_aload_n (pc := 113) hK dX0_stand_113 rfl ?_
        refine xi_getR (pc := 114) (k := 29) hK (fun _ w => w) (by decide) rfl q780 rfl dX0_stand_114 ?_
        refine j_iload_n (pc := 117) hK dX0_stand_117 rfl ?_
        refine xi_ald (pc := 118) (k := 29) (v := R.reverse.getD i 0 - f 10) hK (fun _ w => w) rfl (by decide) (vp_in_nI (show i < 7 by omega) (by decide)) (fun x _ e => add_sub' (StM.at e i hlt)) dX0_stand_118 ?_
        refine j_goto (pc := 119) (tgt := 125) hK dX0_stand_119 (by decide) ?_
        refine j_iadd (pc := 125) hK dX0_stand_125 ?_
        refine j_ist2 (pc := 126) hK dX0_stand_126 (by decide) rfl ?_
        refine j_iinc3 (pc := 127) (v := 1) hK dX0_stand_127 (by decide) rfl (by decide) ?_
        refine j_goto (pc := 130) (tgt := 97) hK dX0_stand_130 (by decide) ?_
        rw [nI_1]
        first
          | (rw [show sumS f R i + (R.reverse.getD i 0 - f 10) = sumS f R (i + 1) from (congrArg (sumS f R i + ·) (if_pos hlt)).symm]; exact ih (i + 1) (by omega))
          | (rw [show sumS f R i + 240 = sumS f R (i + 1) from (congrArg (sumS f R i + ·) (if_neg (fun z => absurd c110 (nI_ge z (by omega))))).symm]; exact ih (i + 1) (by omega))
  have loop1 : ∀ (r i : Nat), i + r = nb → J Γ A K 4 [some (.ref (L 35)), some (.int (nI (stL f g T i).length)), some (.int (nI i)), none, none] [] (XI Γ L f g T (WF (f 10) (stL f g T i))) 0 0 := by
    intro r
    induction r with
    | zero =>
      intro i hi
      have : i = nb := by omega
      subst this
      refine j_iload_n (pc := 4) hK dX0_stand_4 rfl ?_
      refine j_aload_n (pc := 5) hK dX0_stand_5 rfl ?_
      refine xi_getF (pc := 6) (k := 6) (n := 0) hK (fun _ w => w) rfl rfl (by decide) rfl q754 rfl dX0_stand_6 ?_
      refine j_icmp_ge (pc := 9) (tgt := 93) hK dX0_stand_9 (by decide) (fun c9 => ?_) (fun c9 => absurd (by rw [e0]; exact nI_le (by omega) (by omega)) c9)
      refine j_iconst (pc := 93) (v := 0) hK dX0_stand_93 (by decide) ?_
      refine j_ist2 (pc := 94) hK dX0_stand_94 (by decide) rfl ?_
      refine j_iconst (pc := 95) (v := 0) hK dX0_stand_95 (by decide) ?_
      refine j_ist3 (pc := 96) hK dX0_stand_96 (by decide) rfl ?_
      exact loop2 _ rfl wt 0 (by omega)
    | succ r ih =>
      intro i hi
      have hb : Bo f (nI i) := bo_nI e0 (by omega) hn
      have hB := hV.2.1 _ hb
      have hwl := wbi_lt hV hb
      have hl := stL_len (f := f) (g := g) (T := T) i
      have hbd := stL_bd hn e0 hV i (by omega)
      have inner : ∀ bv, bv ≤ 99999 → wbiI f g T (nI i) = nI bv → ∀ (D U : List Int32) (z : Int32), U ++ D = stL f g T i → (∀ x ∈ U, wbiI f g T (nI i) < x) → J Γ A K 26 [some (.ref (L 35)), some (.int (nI (stL f g T i).length)), some (.int (nI i)), some (.int (wbiI f g T (nI i))), some (.int (nI D.length))] [] (XI Γ L f g T (WF (f 10) (U ++ z :: D))) 0 0 := by
        intro bv hbv ebv D
        have hv : ¬ wbiI f g T (nI i) < 0 := by rw [ebv]; exact nI_pos (by omega)
        have fin : ∀ (D U : List Int32) (z : Int32), U ++ D = stL f g T i → (∀ x ∈ U, wbiI f g T (nI i) < x) → (∀ x R, D = x :: R → ¬ wbiI f g T (nI i) < x) → J Γ A K 71 [some (.ref (L 35)), some (.int (nI (stL f g T i).length)), some (.int (nI i)), some (.int (wbiI f g T (nI i))), some (.int (nI D.length))] [] (XI Γ L f g T (WF (f 10) (U ++ z :: D))) 0 0 := by
          intro D U z e1 e2 e5
          have hU : U.length + D.length = (stL f g T i).length := by rw [← e1]; simp
          have e6 : stL f g T (i + 1) = U ++ wbiI f g T (nI i) :: D := by rw [stL_p hv, ← e1, ins_spec e5 U e2]
          have e7 := ih (i + 1) (by omega)
          rw [show (stL f g T (i + 1)).length = (stL f g T i).length + 1 by rw [stL_p hv, ins_len], e6] at e7
          refine j_aload_n (pc := 71) hK dX0_stand_71 rfl ?_
          refine xi_getR (pc := 72) (k := 29) hK (fun _ w => w) (by decide) rfl q780 rfl dX0_stand_72 ?_
          refine j_iload (pc := 75) hK dX0_stand_75 rfl ?_
          refine j_iload_n (pc := 77) hK dX0_stand_77 rfl ?_
          refine j_aload_n (pc := 78) hK dX0_stand_78 rfl ?_
          refine xi_getF (pc := 79) (k := 8) (n := 10) hK (fun _ w => w) rfl rfl (by decide) rfl q758 rfl dX0_stand_79 ?_
          refine j_isub (pc := 82) hK dX0_stand_82 ?_
          refine xi_ast (pc := 83) (k := 29) (f' := f) (g' := g) (φ' := WF (f 10) (U ++ wbiI f g T (nI i) :: D)) hK rfl (by decide) (vp_in_nI (show D.length < 7 by omega) (by decide)) (fun x r e => ⟨r.aH (by simp), WF.put (S := []) x (StM.mid (by simp; omega) e)⟩) rfl dX0_stand_83 ?_
          refine j_iinc1 (pc := 84) (v := 1) hK dX0_stand_84 (by decide) rfl (by decide) ?_
          refine j_iinc2 (pc := 87) (v := 1) hK dX0_stand_87 (by decide) rfl (by decide) ?_
          refine j_goto (pc := 90) (tgt := 4) hK dX0_stand_90 (by decide) ?_
          rw [nI_1, nI_1]
          refine J.fg _ ?_ e7
          exact ⟨rfl, rfl, rfl, trivial⟩
        induction D with
        | nil =>
          intro U z e1 e2
          refine j_iload (pc := 26) hK dX0_stand_26 rfl ?_
          refine j_if_le (pc := 28) (tgt := 71) hK dX0_stand_28 (by decide) (fun c28 => ?_) (fun c28 => absurd (by decide) c28)
          exact fin [] U z e1 e2 (fun x R h => by cases h)
        | cons x D ihD =>
          intro U z e1 e2
          have hU : U.length + (D.length + 1) = (stL f g T i).length := by rw [← e1]; simp
          have ex : nI (x :: D).length - 1 = nI D.length := nI_pred _
          have hlist : U ++ z :: x :: D = (U ++ [z]) ++ x :: D := by simp
          obtain ⟨av, hav, eav⟩ := hbd x (by rw [← e1]; simp)
          have hoff : x - f 10 ≤ wbiI f g T (nI i) - f 10 ↔ ¬ wbiI f g T (nI i) < x := by rw [em]; exact off_le hav hbv hmm eav ebv
          have hb1 : vp_in (nI D.length) 7 := vp_in_nI (by omega) (by decide)
          have hb2 : vp_in (nI (x :: D).length) 7 := vp_in_nI (by simp; omega) (by decide)
          refine j_iload (pc := 26) hK dX0_stand_26 rfl ?_
          refine j_if_le (pc := 28) (tgt := 71) hK dX0_stand_28 (by decide) (fun c28 => absurd c28 (by rw [show (0 : Int32) = nI 0 by decide]; exact nI_ge (by simp) (by simp; omega))) (fun c28 => ?_)
          refine j_aload_n (pc := 31) hK dX0_stand_31 rfl ?_
          refine xi_getR (pc := 32) (k := 29) hK (fun _ w => w) (by decide) rfl q780 rfl dX0_stand_32 ?_
          refine j_iload (pc := 35) hK dX0_stand_35 rfl ?_
          refine j_iconst (pc := 37) (v := 1) hK dX0_stand_37 (by decide) ?_
          refine j_isub (pc := 38) hK dX0_stand_38 ?_
          rw [ex]
          refine xi_ald (pc := 39) (k := 29) (v := x - f 10) hK (fun _ w => w) rfl (by decide) hb1 (fun y _ e => add_sub' (StM.hd (U ++ [z]) (by rw [← hlist]; exact e))) dX0_stand_39 ?_
          refine j_iload_n (pc := 40) hK dX0_stand_40 rfl ?_
          refine j_aload_n (pc := 41) hK dX0_stand_41 rfl ?_
          refine xi_getF (pc := 42) (k := 8) (n := 10) hK (fun _ w => w) rfl rfl (by decide) rfl q758 rfl dX0_stand_42 ?_
          refine j_isub (pc := 45) hK dX0_stand_45 ?_
          refine j_icmp_le (pc := 46) (tgt := 71) hK dX0_stand_46 (by decide) (fun c46 => ?_) (fun c46 => ?_)
          · exact fin (x :: D) U z e1 e2 (fun y R hy => by cases hy; exact hoff.mp c46)
          · refine j_aload_n (pc := 49) hK dX0_stand_49 rfl ?_
            refine xi_getR (pc := 50) (k := 29) hK (fun _ w => w) (by decide) rfl q780 rfl dX0_stand_50 ?_
            refine j_iload (pc := 53) hK dX0_stand_53 rfl ?_
            refine j_aload_n (pc := 55) hK dX0_stand_55 rfl ?_
            refine xi_getR (pc := 56) (k := 29) hK (fun _ w => w) (by decide) rfl q780 rfl dX0_stand_56 ?_
            refine j_iload (pc := 59) hK dX0_stand_59 rfl ?_
            refine j_iconst (pc := 61) (v := 1) hK dX0_stand_61 (by decide) ?_
            refine j_isub (pc := 62) hK dX0_stand_62 ?_
            rw [ex]
            refine xi_ald (pc := 63) (k := 29) (v := x - f 10) hK (fun _ w => w) rfl (by decide) hb1 (fun y _ e => add_sub' (StM.hd (U ++ [z]) (by rw [← hlist]; exact e))) dX0_stand_63 ?_
            refine xi_ast (pc := 64) (k := 29) (f' := f) (g' := g) (φ' := WF (f 10) ((U ++ [x]) ++ x :: D)) hK rfl (by decide) hb2 (fun y r e => ⟨r.aH (by simp), WF.put (S := []) y (by rw [show U ++ [x] ++ x :: D = U ++ x :: x :: D by simp]; exact StM.mid (by simp; omega) e)⟩) rfl dX0_stand_64 ?_
            refine j_iinc4 (pc := 65) (v := (-1)) hK dX0_stand_65 (by decide) rfl (by decide) ?_
            refine j_goto (pc := 68) (tgt := 26) hK dX0_stand_68 (by decide) ?_
            have hxv : wbiI f g T (nI i) < x := Decidable.not_not.mp (fun y => c46 (hoff.mpr y))
            rw [show nI (x :: D).length + -1 = nI D.length from (Int32.sub_eq_add_neg _ _).symm.trans ex]
            exact ihD (U ++ [x]) x (by rw [← e1]; simp) (fun y hy => (List.mem_append.mp hy).elim (e2 y) (fun w => by rw [List.mem_singleton.mp w]; exact hxv))
      refine j_iload_n (pc := 4) hK dX0_stand_4 rfl ?_
      refine j_aload_n (pc := 5) hK dX0_stand_5 rfl ?_
      refine xi_getF (pc := 6) (k := 6) (n := 0) hK (fun _ w => w) rfl rfl (by decide) rfl q754 rfl dX0_stand_6 ?_
      refine j_icmp_ge (pc := 9) (tgt := 93) hK dX0_stand_9 (by decide) (fun c9 => absurd c9 (by rw [e0]; exact nI_ge (by omega) (by omega))) (fun c9 => ?_)
      refine j_aload_n (pc := 12) hK dX0_stand_12 rfl ?_
      refine j_iload_n (pc := 13) hK dX0_stand_13 rfl ?_
      refine j_callV (pc := 14) hK hQ (c_XwouldBeInF (fun _ _ e => e) hb hN hB ho) cal_X0_wouldBeIn (xi_isC (fun _ w => w)) q901 dX0_stand_14 rfl rfl (nle rfl) (nle rfl) (nle rfl) (nle rfl) (kr_i fun r14 => J.pre fun e14 => ?_) kx_i
      subst e14
      refine j_ist3 (pc := 17) hK dX0_stand_17 (by decide) rfl ?_
      refine j_iload_n (pc := 18) hK dX0_stand_18 rfl ?_
      refine j_iconst (pc := 19) (v := (-1)) hK dX0_stand_19 (by decide) ?_
      refine j_icmp_eq (pc := 20) (tgt := 87) hK dX0_stand_20 (by decide) (fun c20 => ?_) (fun c20 => ?_)
      · refine j_iinc2 (pc := 87) (v := 1) hK dX0_stand_87 (by decide) rfl (by decide) ?_
        refine j_goto (pc := 90) (tgt := 4) hK dX0_stand_90 (by decide) ?_
        rw [nI_1]
        refine J.fg _ ?_ (J.mono (fun h w => by rw [stL_n (hwl.mpr c20)]; exact w) (ih (i + 1) (by omega)))
        exact ⟨rfl, by rw [stL_n (hwl.mpr c20)], rfl, trivial⟩
      · refine j_iload_n (pc := 23) hK dX0_stand_23 rfl ?_
        refine j_ist4 (pc := 24) hK dX0_stand_24 (by decide) rfl ?_
        obtain ⟨bv, hbv, ebv⟩ := (wbi_x hV hb).resolve_left c20
        refine J.mono (P' := XI Γ L f g T (fun x => ∃ z, WF (f 10) (z :: stL f g T i) x)) (fun h w => xi_mono (fun x e => ⟨_, WF.cons e⟩) _ w) ?_
        refine xi_ex fun z => ?_
        exact inner bv hbv ebv (stL f g T i) [] z rfl (fun x h => by cases h)
  refine j_iconst (pc := 0) (v := 0) hK dX0_stand_0 (by decide) ?_
  refine j_ist1 (pc := 1) hK dX0_stand_1 (by decide) rfl ?_
  refine j_iconst (pc := 2) (v := 0) hK dX0_stand_2 (by decide) ?_
  refine j_ist2 (pc := 3) hK dX0_stand_3 (by decide) rfl ?_
  refine J.mono (P' := XI Γ L f g T (WF (f 10) (stL f g T 0))) (fun h w => xi_mono (fun _ _ => trivial) _ w) ?_
  exact loop1 nb 0 (by omega)
end X66
