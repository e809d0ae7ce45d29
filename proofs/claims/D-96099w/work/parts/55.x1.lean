/-! the class's small methods -/
set_option maxRecDepth 100000
abbrev TT : XD → Prop := fun _ => True
def XO (Γ : Gam) (L : Nat → Nat) (T : TX) (o : R3) : Int32 → PH → Prop := fun r h => ∃ f' g', o = (r, f', g') ∧ XI Γ L f' g' T TT h
theorem l_le {a b : Int32} : a.toInt64 ≤ b.toInt64 ↔ a ≤ b := by
  rw [Int64.le_iff_toInt_le, Int32.le_iff_toInt_le]
  simp
theorem calB_heldRows {k : Nat} (h : k ≤ 5) : CalV (clB k) yX9_heldRows yX9_heldRows wX9_heldRows 2 1 := by
  rcases k6 h with rfl | rfl | rfl | rfl | rfl | rfl
  · exact calU_X9_X9_heldRows
  · exact calU_X10_X9_heldRows
  · exact calU_X11_X9_heldRows
  · exact calU_X12_X9_heldRows
  · exact calU_X13_X9_heldRows
  · exact calU_X14_X9_heldRows
theorem calB_heldHears {k : Nat} (h : k ≤ 5) : CalV (clB k) yX9_heldHears yX9_heldHears wX9_heldHears 2 1 := by
  rcases k6 h with rfl | rfl | rfl | rfl | rfl | rfl
  · exact calU_X9_X9_heldHears
  · exact calU_X10_X9_heldHears
  · exact calU_X11_X9_heldHears
  · exact calU_X12_X9_heldHears
  · exact calU_X13_X9_heldHears
  · exact calU_X14_X9_heldHears
theorem calB_heldOwes {k : Nat} (h : k ≤ 5) : CalV (clB k) yX9_heldOwes yX9_heldOwes wX9_heldOwes 3 2 := by
  rcases k6 h with rfl | rfl | rfl | rfl | rfl | rfl
  · exact calU_X9_X9_heldOwes
  · exact calU_X10_X9_heldOwes
  · exact calU_X11_X9_heldOwes
  · exact calU_X12_X9_heldOwes
  · exact calU_X13_X9_heldOwes
  · exact calU_X14_X9_heldOwes
section X55
variable {Γ : Gam} {A : Nat → Prop} {L : Nat → Nat} {f : Nat → Int32} {g : Nat → Int32 → Int32} {T : TX} {P : PH → Prop} {φ : XD → Prop}
theorem c_Xin {v l u : Int32} {lo hi : Int64} (hl : l.toInt64 = lo) (hu : u.toInt64 = hi) : Ct Γ A yX0_in wX0_in 1 0 0 [.long v.toInt64, .long lo, .long hi] P (RI fun r h => r = b2i (l ≤ v ∧ v ≤ u) ∧ P h) := by
  subst hl hu
  refine Ct.of (cc := cX0_in) (nL := 6) (ret := (some .boolean)) (ls := [some (.long v.toInt64), none, some (.long l.toInt64), none, some (.long u.toInt64), none]) rfl rfl rfl (nle rfl) ?_
  intro K hK hQ
  refine j_lload_n (pc := 0) hK dX0_in_0 rfl ?_
  refine j_lload_n (pc := 1) hK dX0_in_1 rfl ?_
  refine j_lcmp (pc := 2) hK dX0_in_2 ?_
  refine j_if_lt (pc := 3) (tgt := 17) hK dX0_in_3 (by decide) (fun c3 => ?_) (fun c3 => ?_)
  · refine j_iconst (pc := 17) (v := 0) hK dX0_in_17 (by decide) ?_
    exact j_bret (pc := 18) hK hQ (nle rfl) (nle rfl) dX0_in_18 (fun h w => ⟨by decide, _, rfl, by first | exact (b2i_t ⟨l_le.mp (Int64.not_lt.mp (fun z => c3 ((lg_cmp_lt _ _).mpr z))), l_le.mp (Int64.not_lt.mp (fun z => c10 ((lg_cmp_gt _ _).mpr z)))⟩).symm | exact (b2i_f (fun z => absurd (l_le.mpr z.1) (Int64.not_le.mpr ((lg_cmp_lt _ _).mp c3)))).symm | exact (b2i_f (fun z => absurd (l_le.mpr z.2) (Int64.not_le.mpr ((lg_cmp_gt _ _).mp c10)))).symm, w⟩)
  · refine j_lload_n (pc := 6) hK dX0_in_6 rfl ?_
    refine j_lload (pc := 7) hK dX0_in_7 rfl ?_
    refine j_lcmp (pc := 9) hK dX0_in_9 ?_
    refine j_if_gt (pc := 10) (tgt := 17) hK dX0_in_10 (by decide) (fun c10 => ?_) (fun c10 => ?_)
    · refine j_iconst (pc := 17) (v := 0) hK dX0_in_17 (by decide) ?_
      exact j_bret (pc := 18) hK hQ (nle rfl) (nle rfl) dX0_in_18 (fun h w => ⟨by decide, _, rfl, by first | exact (b2i_t ⟨l_le.mp (Int64.not_lt.mp (fun z => c3 ((lg_cmp_lt _ _).mpr z))), l_le.mp (Int64.not_lt.mp (fun z => c10 ((lg_cmp_gt _ _).mpr z)))⟩).symm | exact (b2i_f (fun z => absurd (l_le.mpr z.1) (Int64.not_le.mpr ((lg_cmp_lt _ _).mp c3)))).symm | exact (b2i_f (fun z => absurd (l_le.mpr z.2) (Int64.not_le.mpr ((lg_cmp_gt _ _).mp c10)))).symm, w⟩)
    · refine j_iconst (pc := 13) (v := 1) hK dX0_in_13 (by decide) ?_
      refine j_goto (pc := 14) (tgt := 18) hK dX0_in_14 (by decide) ?_
      exact j_bret (pc := 18) hK hQ (nle rfl) (nle rfl) dX0_in_18 (fun h w => ⟨by decide, _, rfl, by first | exact (b2i_t ⟨l_le.mp (Int64.not_lt.mp (fun z => c3 ((lg_cmp_lt _ _).mpr z))), l_le.mp (Int64.not_lt.mp (fun z => c10 ((lg_cmp_gt _ _).mpr z)))⟩).symm | exact (b2i_f (fun z => absurd (l_le.mpr z.1) (Int64.not_le.mpr ((lg_cmp_lt _ _).mp c3)))).symm | exact (b2i_f (fun z => absurd (l_le.mpr z.2) (Int64.not_le.mpr ((lg_cmp_gt _ _).mp c10)))).symm, w⟩)
theorem c_XisCell (c : Int32) : Ct Γ A yX0_isCell wX0_isCell 2 0 0 [.int c] P (RI fun r h => r = b2i (0 ≤ c ∧ c ≤ 47) ∧ P h) := by
  refine Ct.of (cc := cX0_isCell) (nL := 1) (ret := (some .boolean)) (ls := [some (.int c)]) rfl rfl rfl (nle rfl) ?_
  intro K hK hQ
  refine j_iload_n (pc := 0) hK dX0_isCell_0 rfl ?_
  refine j_i2l (pc := 1) hK dX0_isCell_1 ?_
  refine j_lconst (pc := 2) (v := 0) hK dX0_isCell_2 (by decide) ?_
  refine j_ldc2 (pc := 3) hK q112 dX0_isCell_3 ?_
  refine j_callS (pc := 6) hK hQ (c_Xin (l := 0) (u := 47) (by decide) (by decide)) cal_X0_in q106 dX0_isCell_6 rfl rfl (nle rfl) (nle rfl) (nle rfl) (nle rfl) (kr_i fun r6 => ?_) kx_i
  refine J.pre fun e6 => ?_
  subst e6
  exact j_bret (pc := 9) hK hQ (nle rfl) (nle rfl) dX0_isCell_9 (fun h w => ⟨by unfold b2i; split <;> simp, _, rfl, rfl, w⟩)
theorem c_XisSheet (c : Int32) : Ct Γ A yX0_isSheet wX0_isSheet 2 0 0 [.int c] P (RI fun r h => r = b2i (0 ≤ c ∧ c ≤ 3) ∧ P h) := by
  refine Ct.of (cc := cX0_isSheet) (nL := 1) (ret := (some .boolean)) (ls := [some (.int c)]) rfl rfl rfl (nle rfl) ?_
  intro K hK hQ
  refine j_iload_n (pc := 0) hK dX0_isSheet_0 rfl ?_
  refine j_i2l (pc := 1) hK dX0_isSheet_1 ?_
  refine j_lconst (pc := 2) (v := 0) hK dX0_isSheet_2 (by decide) ?_
  refine j_ldc2 (pc := 3) hK q180 dX0_isSheet_3 ?_
  refine j_callS (pc := 6) hK hQ (c_Xin (l := 0) (u := 3) (by decide) (by decide)) cal_X0_in q106 dX0_isSheet_6 rfl rfl (nle rfl) (nle rfl) (nle rfl) (nle rfl) (kr_i fun r6 => ?_) kx_i
  refine J.pre fun e6 => ?_
  subst e6
  exact j_bret (pc := 9) hK hQ (nle rfl) (nle rfl) dX0_isSheet_9 (fun h w => ⟨by unfold b2i; split <;> simp, _, rfl, rfl, w⟩)
theorem c_XisLetter (c : Int32) : Ct Γ A yX0_isLetter wX0_isLetter 2 0 0 [.int c] P (RI fun r h => r = b2i (97 ≤ c ∧ c ≤ 122) ∧ P h) := by
  refine Ct.of (cc := cX0_isLetter) (nL := 1) (ret := (some .boolean)) (ls := [some (.int c)]) rfl rfl rfl (nle rfl) ?_
  intro K hK hQ
  refine j_iload_n (pc := 0) hK dX0_isLetter_0 rfl ?_
  refine j_i2l (pc := 1) hK dX0_isLetter_1 ?_
  refine j_ldc2 (pc := 2) hK q406 dX0_isLetter_2 ?_
  refine j_ldc2 (pc := 5) hK q407 dX0_isLetter_5 ?_
  refine j_callS (pc := 8) hK hQ (c_Xin (l := 97) (u := 122) (by decide) (by decide)) cal_X0_in q106 dX0_isLetter_8 rfl rfl (nle rfl) (nle rfl) (nle rfl) (nle rfl) (kr_i fun r8 => ?_) kx_i
  refine J.pre fun e8 => ?_
  subst e8
  exact j_bret (pc := 11) hK hQ (nle rfl) (nle rfl) dX0_isLetter_11 (fun h w => ⟨by unfold b2i; split <;> simp, _, rfl, rfl, w⟩)
theorem c_XisDigit (c : Int32) : Ct Γ A yX0_isDigit wX0_isDigit 2 0 0 [.int c] P (RI fun r h => r = b2i (48 ≤ c ∧ c ≤ 57) ∧ P h) := by
  refine Ct.of (cc := cX0_isDigit) (nL := 1) (ret := (some .boolean)) (ls := [some (.int c)]) rfl rfl rfl (nle rfl) ?_
  intro K hK hQ
  refine j_iload_n (pc := 0) hK dX0_isDigit_0 rfl ?_
  refine j_i2l (pc := 1) hK dX0_isDigit_1 ?_
  refine j_ldc2 (pc := 2) hK q467 dX0_isDigit_2 ?_
  refine j_ldc2 (pc := 5) hK q468 dX0_isDigit_5 ?_
  refine j_callS (pc := 8) hK hQ (c_Xin (l := 48) (u := 57) (by decide) (by decide)) cal_X0_in q106 dX0_isDigit_8 rfl rfl (nle rfl) (nle rfl) (nle rfl) (nle rfl) (kr_i fun r8 => ?_) kx_i
  refine J.pre fun e8 => ?_
  subst e8
  exact j_bret (pc := 11) hK hQ (nle rfl) (nle rfl) dX0_isDigit_11 (fun h w => ⟨by unfold b2i; split <;> simp, _, rfl, rfl, w⟩)
theorem c_Xfar (a b : Int32) : Ct Γ A yX0_far wX0_far 1 0 0 [.int a, .int b] P (RI fun r h => r = farI a b ∧ P h) := by
  refine Ct.of (cc := cX0_far) (nL := 2) (ret := (some .int)) (ls := [some (.int a), some (.int b)]) rfl rfl rfl (nle rfl) ?_
  intro K hK hQ
  refine j_iload_n (pc := 0) hK dX0_far_0 rfl ?_
  refine j_bipush (pc := 1) (v := 8) hK dX0_far_1 (by decide) ?_
  refine j_idiv (pc := 3) hK dX0_far_3 (by decide) ?_
  refine j_iload_n (pc := 4) hK dX0_far_4 rfl ?_
  refine j_bipush (pc := 5) (v := 8) hK dX0_far_5 (by decide) ?_
  refine j_idiv (pc := 7) hK dX0_far_7 (by decide) ?_
  refine j_isub (pc := 8) hK dX0_far_8 ?_
  refine j_mabs (pc := 9) hK hQ q306 dX0_far_9 (nle rfl) (nle rfl) (nle rfl) ?_
  refine j_iload_n (pc := 12) hK dX0_far_12 rfl ?_
  refine j_bipush (pc := 13) (v := 8) hK dX0_far_13 (by decide) ?_
  refine j_irem (pc := 15) hK dX0_far_15 (by decide) ?_
  refine j_iload_n (pc := 16) hK dX0_far_16 rfl ?_
  refine j_bipush (pc := 17) (v := 8) hK dX0_far_17 (by decide) ?_
  refine j_irem (pc := 19) hK dX0_far_19 (by decide) ?_
  refine j_isub (pc := 20) hK dX0_far_20 ?_
  refine j_mabs (pc := 21) hK hQ q306 dX0_far_21 (nle rfl) (nle rfl) (nle rfl) ?_
  refine j_iadd (pc := 24) hK dX0_far_24 ?_
  exact j_iret (pc := 25) hK hQ (nle rfl) (nle rfl) dX0_far_25 (fun h w => ⟨_, rfl, rfl, w⟩)
theorem c_XlowOf (c : Int32) : Ct Γ A yX0_lowOf wX0_lowOf 1 0 0 [.int c] P (RI fun r h => r = (if c = 6 ∨ c = 7 then 1 else 0) ∧ P h) := by
  refine Ct.of (cc := cX0_lowOf) (nL := 1) (ret := (some .int)) (ls := [some (.int c)]) rfl rfl rfl (nle rfl) ?_
  intro K hK hQ
  refine j_iload_n (pc := 0) hK dX0_lowOf_0 rfl ?_
  refine j_bipush (pc := 1) (v := 6) hK dX0_lowOf_1 (by decide) ?_
  refine j_icmp_eq (pc := 3) (tgt := 12) hK dX0_lowOf_3 (by decide) (fun c3 => ?_) (fun c3 => ?_)
  · refine j_iconst (pc := 12) (v := 1) hK dX0_lowOf_12 (by decide) ?_
    refine j_goto (pc := 13) (tgt := 17) hK dX0_lowOf_13 (by decide) ?_
    exact j_iret (pc := 17) hK hQ (nle rfl) (nle rfl) dX0_lowOf_17 (fun h w => ⟨_, rfl, by simp [*], w⟩)
  · refine j_iload_n (pc := 6) hK dX0_lowOf_6 rfl ?_
    refine j_bipush (pc := 7) (v := 7) hK dX0_lowOf_7 (by decide) ?_
    refine j_icmp_ne (pc := 9) (tgt := 16) hK dX0_lowOf_9 (by decide) (fun c9 => ?_) (fun c9 => ?_)
    · refine j_iconst (pc := 16) (v := 0) hK dX0_lowOf_16 (by decide) ?_
      exact j_iret (pc := 17) hK hQ (nle rfl) (nle rfl) dX0_lowOf_17 (fun h w => ⟨_, rfl, by simp [*], w⟩)
    · refine j_iconst (pc := 12) (v := 1) hK dX0_lowOf_12 (by decide) ?_
      refine j_goto (pc := 13) (tgt := 17) hK dX0_lowOf_13 (by decide) ?_
      exact j_iret (pc := 17) hK hQ (nle rfl) (nle rfl) dX0_lowOf_17 (fun h w => ⟨_, rfl, by simp [*], w⟩)
theorem c_XhighOf (c : Int32) : Ct Γ A yX0_highOf wX0_highOf 1 0 0 [.int c] P (RI fun r h => r = (if c = 4 then 47 else if c = 6 then 6 else if c = 8 then 20 else 9) ∧ P h) := by
  refine Ct.of (cc := cX0_highOf) (nL := 1) (ret := (some .int)) (ls := [some (.int c)]) rfl rfl rfl (nle rfl) ?_
  intro K hK hQ
  refine j_iload_n (pc := 0) hK dX0_highOf_0 rfl ?_
  refine j_iconst (pc := 1) (v := 4) hK dX0_highOf_1 (by decide) ?_
  refine j_icmp_ne (pc := 2) (tgt := 10) hK dX0_highOf_2 (by decide) (fun c2 => ?_) (fun c2 => ?_)
  · refine j_iload_n (pc := 10) hK dX0_highOf_10 rfl ?_
    refine j_bipush (pc := 11) (v := 6) hK dX0_highOf_11 (by decide) ?_
    refine j_icmp_ne (pc := 13) (tgt := 21) hK dX0_highOf_13 (by decide) (fun c13 => ?_) (fun c13 => ?_)
    · refine j_iload_n (pc := 21) hK dX0_highOf_21 rfl ?_
      refine j_bipush (pc := 22) (v := 8) hK dX0_highOf_22 (by decide) ?_
      refine j_icmp_ne (pc := 24) (tgt := 32) hK dX0_highOf_24 (by decide) (fun c24 => ?_) (fun c24 => ?_)
      · refine j_bipush (pc := 32) (v := 9) hK dX0_highOf_32 (by decide) ?_
        exact j_iret (pc := 34) hK hQ (nle rfl) (nle rfl) dX0_highOf_34 (fun h w => ⟨_, rfl, by simp [*], w⟩)
      · refine j_bipush (pc := 27) (v := 20) hK dX0_highOf_27 (by decide) ?_
        refine j_goto (pc := 29) (tgt := 34) hK dX0_highOf_29 (by decide) ?_
        exact j_iret (pc := 34) hK hQ (nle rfl) (nle rfl) dX0_highOf_34 (fun h w => ⟨_, rfl, by simp [*], w⟩)
    · refine j_bipush (pc := 16) (v := 6) hK dX0_highOf_16 (by decide) ?_
      refine j_goto (pc := 18) (tgt := 34) hK dX0_highOf_18 (by decide) ?_
      exact j_iret (pc := 34) hK hQ (nle rfl) (nle rfl) dX0_highOf_34 (fun h w => ⟨_, rfl, by simp [*], w⟩)
  · refine j_bipush (pc := 5) (v := 47) hK dX0_highOf_5 (by decide) ?_
    refine j_goto (pc := 7) (tgt := 34) hK dX0_highOf_7 (by decide) ?_
    exact j_iret (pc := 34) hK hQ (nle rfl) (nle rfl) dX0_highOf_34 (fun h w => ⟨_, rfl, by simp [*], w⟩)
theorem c_XisBoat (hw : ∀ h, P h → XI Γ L f g T φ h) (b : Int32) : Ct Γ A yX0_isBoat wX0_isBoat 2 0 0 [.ref (L 35), .int b] P (RI fun r h => r = b2i (0 ≤ b ∧ b ≤ f 0 - 1) ∧ P h) := by
  refine Ct.of (cc := cX0_isBoat) (nL := 2) (ret := (some .boolean)) (ls := [some (.ref (L 35)), some (.int b)]) rfl rfl rfl (nle rfl) ?_
  intro K hK hQ
  refine j_iload_n (pc := 0) hK dX0_isBoat_0 rfl ?_
  refine j_i2l (pc := 1) hK dX0_isBoat_1 ?_
  refine j_lconst (pc := 2) (v := 0) hK dX0_isBoat_2 (by decide) ?_
  refine j_aload_n (pc := 3) hK dX0_isBoat_3 rfl ?_
  refine xi_getF (pc := 4) (k := 6) (n := 0) hK hw rfl rfl (by decide) rfl q754 rfl dX0_isBoat_4 ?_
  refine j_iconst (pc := 7) (v := 1) hK dX0_isBoat_7 (by decide) ?_
  refine j_isub (pc := 8) hK dX0_isBoat_8 ?_
  refine j_i2l (pc := 9) hK dX0_isBoat_9 ?_
  refine j_callS (pc := 10) hK hQ (c_Xin (l := 0) (u := f 0 - 1) (by decide) rfl) cal_X0_in q106 dX0_isBoat_10 rfl rfl (nle rfl) (nle rfl) (nle rfl) (nle rfl) (kr_i fun r10 => ?_) kx_i
  refine J.pre fun e10 => ?_
  subst e10
  exact j_bret (pc := 13) hK hQ (nle rfl) (nle rfl) dX0_isBoat_13 (fun h w => ⟨by unfold b2i; split <;> simp, _, rfl, rfl, w⟩)
theorem c_XisText (hw : ∀ h, P h → XI Γ L f g T φ h) (b : Int32) : Ct Γ A yX0_isText wX0_isText 2 0 0 [.ref (L 35), .int b] P (RI fun r h => r = b2i (0 ≤ b ∧ b ≤ f 17 - 1) ∧ P h) := by
  refine Ct.of (cc := cX0_isText) (nL := 2) (ret := (some .boolean)) (ls := [some (.ref (L 35)), some (.int b)]) rfl rfl rfl (nle rfl) ?_
  intro K hK hQ
  refine j_iload_n (pc := 0) hK dX0_isText_0 rfl ?_
  refine j_i2l (pc := 1) hK dX0_isText_1 ?_
  refine j_lconst (pc := 2) (v := 0) hK dX0_isText_2 (by decide) ?_
  refine j_aload_n (pc := 3) hK dX0_isText_3 rfl ?_
  refine xi_getF (pc := 4) (k := 13) (n := 17) hK hw rfl rfl (by decide) rfl q764 rfl dX0_isText_4 ?_
  refine j_iconst (pc := 7) (v := 1) hK dX0_isText_7 (by decide) ?_
  refine j_isub (pc := 8) hK dX0_isText_8 ?_
  refine j_i2l (pc := 9) hK dX0_isText_9 ?_
  refine j_callS (pc := 10) hK hQ (c_Xin (l := 0) (u := f 17 - 1) (by decide) rfl) cal_X0_in q106 dX0_isText_10 rfl rfl (nle rfl) (nle rfl) (nle rfl) (nle rfl) (kr_i fun r10 => ?_) kx_i
  refine J.pre fun e10 => ?_
  subst e10
  exact j_bret (pc := 13) hK hQ (nle rfl) (nle rfl) dX0_isText_13 (fun h w => ⟨by unfold b2i; split <;> simp, _, rfl, rfl, w⟩)
theorem c_Xdue (hw : ∀ h, P h → XI Γ L f g T φ h) {b : Int32} (hb : Bo f b) : Ct Γ A yX0_due wX0_due 1 0 0 [.ref (L 35), .int b] P (RI fun r h => r = g 4 b + g 5 b ∧ P h) := by
  refine Ct.of (cc := cX0_due) (nL := 2) (ret := (some .int)) (ls := [some (.ref (L 35)), some (.int b)]) rfl rfl rfl (nle rfl) ?_
  intro K hK hQ
  refine j_aload_n (pc := 0) hK dX0_due_0 rfl ?_
  refine xi_getR (pc := 1) (k := 2) hK hw (by decide) rfl q750 rfl dX0_due_1 ?_
  refine j_iload_n (pc := 4) hK dX0_due_4 rfl ?_
  refine xi_aldB (pc := 5) (k := 2) (n := 4) hK hw (by decide) rfl rfl rfl rfl hb dX0_due_5 ?_
  refine j_aload_n (pc := 6) hK dX0_due_6 rfl ?_
  refine xi_getR (pc := 7) (k := 3) hK hw (by decide) rfl q751 rfl dX0_due_7 ?_
  refine j_iload_n (pc := 10) hK dX0_due_10 rfl ?_
  refine xi_aldB (pc := 11) (k := 3) (n := 5) hK hw (by decide) rfl rfl rfl rfl hb dX0_due_11 ?_
  refine j_iadd (pc := 12) hK dX0_due_12 ?_
  exact j_iret (pc := 13) hK hQ (nle rfl) (nle rfl) dX0_due_13 (fun h w => ⟨_, rfl, rfl, w⟩)
theorem c_XisHidden (hw : ∀ h, P h → XI Γ L f g T φ h) (c : Int32) : Ct Γ A yX0_isHidden wX0_isHidden 1 0 0 [.ref (L 35), .int c] P (RI fun r h => r = b2i (c / 8 = f 8 / 8 ∧ f 8 % 8 < c % 8) ∧ P h) := by
  refine Ct.of (cc := cX0_isHidden) (nL := 2) (ret := (some .boolean)) (ls := [some (.ref (L 35)), some (.int c)]) rfl rfl rfl (nle rfl) ?_
  intro K hK hQ
  refine j_iload_n (pc := 0) hK dX0_isHidden_0 rfl ?_
  refine j_bipush (pc := 1) (v := 8) hK dX0_isHidden_1 (by decide) ?_
  refine j_idiv (pc := 3) hK dX0_isHidden_3 (by decide) ?_
  refine j_aload_n (pc := 4) hK dX0_isHidden_4 rfl ?_
  refine xi_getR (pc := 5) (k := 7) hK hw (by decide) rfl q756 rfl dX0_isHidden_5 ?_
  refine j_iconst (pc := 8) (v := 0) hK dX0_isHidden_8 (by decide) ?_
  refine xi_aldL (pc := 9) (i := 0) (n := 8) hK hw (by decide) rfl (by decide) dX0_isHidden_9 ?_
  refine j_bipush (pc := 10) (v := 8) hK dX0_isHidden_10 (by decide) ?_
  refine j_idiv (pc := 12) hK dX0_isHidden_12 (by decide) ?_
  refine j_icmp_ne (pc := 13) (tgt := 36) hK dX0_isHidden_13 (by decide) (fun c13 => ?_) (fun c13 => ?_)
  · refine j_iconst (pc := 36) (v := 0) hK dX0_isHidden_36 (by decide) ?_
    exact j_bret (pc := 37) hK hQ (nle rfl) (nle rfl) dX0_isHidden_37 (fun h w => ⟨by decide, _, rfl, by first | exact (b2i_t ⟨c13, Int32.not_le.mp c29⟩).symm | exact (b2i_f (fun z => c13 z.1)).symm | exact (b2i_f (fun z => absurd z.2 (Int32.not_lt.mpr c29))).symm, w⟩)
  · refine j_iload_n (pc := 16) hK dX0_isHidden_16 rfl ?_
    refine j_bipush (pc := 17) (v := 8) hK dX0_isHidden_17 (by decide) ?_
    refine j_irem (pc := 19) hK dX0_isHidden_19 (by decide) ?_
    refine j_aload_n (pc := 20) hK dX0_isHidden_20 rfl ?_
    refine xi_getR (pc := 21) (k := 7) hK hw (by decide) rfl q756 rfl dX0_isHidden_21 ?_
    refine j_iconst (pc := 24) (v := 0) hK dX0_isHidden_24 (by decide) ?_
    refine xi_aldL (pc := 25) (i := 0) (n := 8) hK hw (by decide) rfl (by decide) dX0_isHidden_25 ?_
    refine j_bipush (pc := 26) (v := 8) hK dX0_isHidden_26 (by decide) ?_
    refine j_irem (pc := 28) hK dX0_isHidden_28 (by decide) ?_
    refine j_icmp_le (pc := 29) (tgt := 36) hK dX0_isHidden_29 (by decide) (fun c29 => ?_) (fun c29 => ?_)
    · refine j_iconst (pc := 36) (v := 0) hK dX0_isHidden_36 (by decide) ?_
      exact j_bret (pc := 37) hK hQ (nle rfl) (nle rfl) dX0_isHidden_37 (fun h w => ⟨by decide, _, rfl, by first | exact (b2i_t ⟨c13, Int32.not_le.mp c29⟩).symm | exact (b2i_f (fun z => c13 z.1)).symm | exact (b2i_f (fun z => absurd z.2 (Int32.not_lt.mpr c29))).symm, w⟩)
    · refine j_iconst (pc := 32) (v := 1) hK dX0_isHidden_32 (by decide) ?_
      refine j_goto (pc := 33) (tgt := 37) hK dX0_isHidden_33 (by decide) ?_
      exact j_bret (pc := 37) hK hQ (nle rfl) (nle rfl) dX0_isHidden_37 (fun h w => ⟨by decide, _, rfl, by first | exact (b2i_t ⟨c13, Int32.not_le.mp c29⟩).symm | exact (b2i_f (fun z => c13 z.1)).symm | exact (b2i_f (fun z => absurd z.2 (Int32.not_lt.mpr c29))).symm, w⟩)
def tofI (f : Nat → Int32) (g : Nat → Int32 → Int32) (b what : Int32) : Int32 := if what = 0 then g 3 b else if what = 1 then g 4 b else if what = 2 then g 5 b else g 2 b
theorem c_XtoldOf (hw : ∀ h, P h → XI Γ L f g T φ h) {b : Int32} (what : Int32) (hb : Bo f b) (hB : InvB g b) : Ct Γ A yX0_toldOf wX0_toldOf 1 0 0 [.ref (L 35), .int b, .int what] P (RI fun r h => r = tofI f g b what ∧ P h) := by
  refine Ct.of (cc := cX0_toldOf) (nL := 3) (ret := (some .int)) (ls := [some (.ref (L 35)), some (.int b), some (.int what)]) rfl rfl rfl (nle rfl) ?_
  intro K hK hQ
  refine j_iload_n (pc := 0) hK dX0_toldOf_0 rfl ?_
  refine j_if_ne (pc := 1) (tgt := 13) hK dX0_toldOf_1 (by decide) (fun c1 => ?_) (fun c1 => ?_)
  · refine j_iload_n (pc := 13) hK dX0_toldOf_13 rfl ?_
    refine j_iconst (pc := 14) (v := 1) hK dX0_toldOf_14 (by decide) ?_
    refine j_icmp_ne (pc := 15) (tgt := 27) hK dX0_toldOf_15 (by decide) (fun c15 => ?_) (fun c15 => ?_)
    · refine j_iload_n (pc := 27) hK dX0_toldOf_27 rfl ?_
      refine j_iconst (pc := 28) (v := 2) hK dX0_toldOf_28 (by decide) ?_
      refine j_icmp_ne (pc := 29) (tgt := 41) hK dX0_toldOf_29 (by decide) (fun c29 => ?_) (fun c29 => ?_)
      · refine j_aload_n (pc := 41) hK dX0_toldOf_41 rfl ?_
        refine xi_getR (pc := 42) (k := 0) hK hw (by decide) rfl q747 rfl dX0_toldOf_42 ?_
        refine j_iload_n (pc := 45) hK dX0_toldOf_45 rfl ?_
        refine xi_baldB (pc := 46) hK hw hb dX0_toldOf_46 ?_
        refine b_num (pc := 47) hK (xi_bta hw hb hB) q135 (Or.inl rfl) dX0_toldOf_47 ?_
        exact j_iret (pc := 50) hK hQ (nle rfl) (nle rfl) dX0_toldOf_50 (fun h w => ⟨_, rfl, by simp [tofI, *], w⟩)
      · refine j_aload_n (pc := 32) hK dX0_toldOf_32 rfl ?_
        refine xi_getR (pc := 33) (k := 3) hK hw (by decide) rfl q751 rfl dX0_toldOf_33 ?_
        refine j_iload_n (pc := 36) hK dX0_toldOf_36 rfl ?_
        refine xi_aldB (pc := 37) (k := 3) (n := 5) hK hw (by decide) rfl rfl rfl rfl hb dX0_toldOf_37 ?_
        refine j_goto (pc := 38) (tgt := 50) hK dX0_toldOf_38 (by decide) ?_
        exact j_iret (pc := 50) hK hQ (nle rfl) (nle rfl) dX0_toldOf_50 (fun h w => ⟨_, rfl, by simp [tofI, *], w⟩)
    · refine j_aload_n (pc := 18) hK dX0_toldOf_18 rfl ?_
      refine xi_getR (pc := 19) (k := 2) hK hw (by decide) rfl q750 rfl dX0_toldOf_19 ?_
      refine j_iload_n (pc := 22) hK dX0_toldOf_22 rfl ?_
      refine xi_aldB (pc := 23) (k := 2) (n := 4) hK hw (by decide) rfl rfl rfl rfl hb dX0_toldOf_23 ?_
      refine j_goto (pc := 24) (tgt := 50) hK dX0_toldOf_24 (by decide) ?_
      exact j_iret (pc := 50) hK hQ (nle rfl) (nle rfl) dX0_toldOf_50 (fun h w => ⟨_, rfl, by simp [tofI, *], w⟩)
  · refine j_aload_n (pc := 4) hK dX0_toldOf_4 rfl ?_
    refine xi_getR (pc := 5) (k := 1) hK hw (by decide) rfl q749 rfl dX0_toldOf_5 ?_
    refine j_iload_n (pc := 8) hK dX0_toldOf_8 rfl ?_
    refine xi_aldB (pc := 9) (k := 1) (n := 3) hK hw (by decide) rfl rfl rfl rfl hb dX0_toldOf_9 ?_
    refine j_goto (pc := 10) (tgt := 50) hK dX0_toldOf_10 (by decide) ?_
    exact j_iret (pc := 50) hK hQ (nle rfl) (nle rfl) dX0_toldOf_50 (fun h w => ⟨_, rfl, by simp [tofI, *], w⟩)
theorem i6 {x : Int32} (h0 : 0 ≤ x) (h1 : x ≤ 5) : ∃ k, k < 6 ∧ x = nI k := by
  obtain ⟨k, hk, e⟩ := nI_of2 (M := 5) (n := 5) (by decide) (Int32.not_lt.mpr h0) h1
  exact ⟨k, by omega, e⟩
theorem i10 {x : Int32} (h0 : 0 ≤ x) (h1 : x ≤ 9) : ∃ k, k < 10 ∧ x = nI k := by
  obtain ⟨k, hk, e⟩ := nI_of2 (M := 9) (n := 9) (by decide) (Int32.not_lt.mpr h0) h1
  exact ⟨k, by omega, e⟩
theorem rowB_all : ∀ k, k < 6 → ∀ n, n < 10 → ∀ w, w < 10 → maxI 1 (rowB k (nI n) (nI w)) = (if nI k = 1 then 2 + nI w / 2 - 1 else if nI k = 2 then 2 + nI w / 2 + nI w else if nI k = 3 then 2 + nI w / 2 - 1 + nI n else if nI k = 4 then 2 + nI w / 2 + nI w else if nI k = 5 then 2 * (2 + nI w / 2) else 2 + nI w / 2) := by
  decide +kernel
theorem hearB_all : ∀ k, k < 6 → ∀ n, n < 10 → ∀ w, w < 10 → maxI 0 (hearB k (nI n) (nI w)) = (if nI k = 1 then 12 - nI w + nI n else if nI k = 2 then maxI 0 (12 - nI w - 3) else if nI k = 3 then 12 - nI w + nI n else if nI k = 4 then maxI 0 ((12 - nI w - 3) / 2) else if nI k = 5 then (if nI n % 2 = 1 then 0 else 12 - nI w) else 12 - nI w) := by
  decide +kernel
theorem InvB.k5 {b : Int32} (h : InvB g b) : (g 1 b).toNatClampNeg ≤ 5 := clp_le (n := 5) h.2.1 (by decide) h.1
def InvW (f : Nat → Int32) : Prop := 0 ≤ f 9 ∧ f 9 ≤ 9
theorem InvN.w (h : InvN f) : InvW f := ⟨h.2.2.2.2.1, h.2.2.2.2.2.1⟩
theorem rowB_eq {b : Int32} (hN : InvW f) (hB : InvB g b) : maxI 1 (rowB (g 1 b).toNatClampNeg (g 2 b) (f 9)) = rowsI f g b := by
  obtain ⟨k, hk, e1⟩ := i6 hB.1 hB.2.1
  obtain ⟨n, hn, e2⟩ := i10 hB.2.2.1 hB.2.2.2.1
  obtain ⟨w, hw, e3⟩ := i10 hN.1 hN.2
  unfold rowsI
  rw [e1, e2, e3, nI_clamp (by omega)]
  exact rowB_all k hk n hn w hw
theorem hearB_eq {b : Int32} (hN : InvW f) (hB : InvB g b) : maxI 0 (hearB (g 1 b).toNatClampNeg (g 2 b) (f 9)) = hearI f g b := by
  obtain ⟨k, hk, e1⟩ := i6 hB.1 hB.2.1
  obtain ⟨n, hn, e2⟩ := i10 hB.2.2.1 hB.2.2.2.1
  obtain ⟨w, hw, e3⟩ := i10 hN.1 hN.2
  unfold hearI
  rw [e1, e2, e3, nI_clamp (by omega)]
  exact hearB_all k hk n hn w hw
theorem c_Xneeds (hw : ∀ h, P h → XI Γ L f g T φ h) {b : Int32} (hb : Bo f b) (hN : InvW f) (hB : InvB g b) : Ct Γ A yX0_needs wX0_needs 7 0 0 [.ref (L 35), .int b] P (RI fun r h => r = needI f g b ∧ P h) := by
  refine Ct.of (cc := cX0_needs) (nL := 2) (ret := (some .int)) (ls := [some (.ref (L 35)), some (.int b)]) rfl rfl rfl (nle rfl) ?_
  intro K hK hQ
  refine j_aload_n (pc := 0) hK dX0_needs_0 rfl ?_
  refine xi_getR (pc := 1) (k := 1) hK hw (by decide) rfl q749 rfl dX0_needs_1 ?_
  refine j_iload_n (pc := 4) hK dX0_needs_4 rfl ?_
  refine xi_aldB (pc := 5) (k := 1) (n := 3) hK hw (by decide) rfl rfl rfl rfl hb dX0_needs_5 ?_
  refine j_iconst (pc := 6) (v := 0) hK dX0_needs_6 (by decide) ?_
  refine j_callS (pc := 7) hK hQ (c_Xfar _ _) cal_X0_far q303 dX0_needs_7 rfl rfl (nle rfl) (nle rfl) (nle rfl) (nle rfl) (kr_i fun r7 => ?_) kx_i
  refine J.pre fun e7 => ?_
  subst e7
  refine j_aload_n (pc := 10) hK dX0_needs_10 rfl ?_
  refine xi_getR (pc := 11) (k := 0) hK hw (by decide) rfl q747 rfl dX0_needs_11 ?_
  refine j_iload_n (pc := 14) hK dX0_needs_14 rfl ?_
  refine xi_baldB (pc := 15) hK hw hb dX0_needs_15 ?_
  refine j_aload_n (pc := 16) hK dX0_needs_16 rfl ?_
  refine xi_getR (pc := 17) (k := 7) hK hw (by decide) rfl q756 rfl dX0_needs_17 ?_
  refine j_iconst (pc := 20) (v := 1) hK dX0_needs_20 (by decide) ?_
  refine xi_aldL (pc := 21) (i := 1) (n := 9) hK hw (by decide) rfl (by decide) dX0_needs_21 ?_
  refine j_callV (pc := 22) hK hQ (c_BX9_heldRows (xi_bta hw hb hB) _) (calB_heldRows (InvB.k5 hB)) (xi_bta hw hb hB).isC q232 dX0_needs_22 rfl rfl (nle rfl) (nle rfl) (nle rfl) (nle rfl) (kr_i fun r22 => ?_) kx_i
  refine J.pre fun e22 => ?_
  subst e22
  refine j_imul (pc := 25) hK dX0_needs_25 ?_
  exact j_iret (pc := 26) hK hQ (nle rfl) (nle rfl) dX0_needs_26 (fun h w => ⟨_, rfl, by unfold needI; rw [← rowB_eq hN hB], w⟩)
end X55
