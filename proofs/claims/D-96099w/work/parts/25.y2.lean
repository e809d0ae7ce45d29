/-! the reference's plain methods -/
set_option maxRecDepth 100000
section Y2
variable {Γ : Gam} {A : Nat → Prop} {L : Nat → Nat} {f : Nat → Int32} {g : Nat → Int32 → Int32} {T : TX} {P : PH → Prop}
theorem c_Yrows (b : Int32) (hb : vp_in b 7) : Ct Γ A yX8_rows wX8_rows 1 0 0 [.ref (L 40), .int b] (YI Γ L f g T) (RI fun r h => r = rowsI f g b ∧ YI Γ L f g T h) := by
  refine Ct.of (cc := cX8_rows) (nL := 3) (ret := (some .int)) (ls := [some (.ref (L 40)), some (.int b), none]) rfl rfl rfl (nle rfl) ?_
  intro K hK hQ
  refine j_iconst (pc := 0) (v := 2) hK dX8_rows_0 (by decide) ?_
  refine j_aload_n (pc := 1) hK dX8_rows_1 rfl ?_
  refine yi_getI (pc := 2) (k := 9) hK (by decide) rfl rfl q1249 rfl dX8_rows_2 ?_
  refine j_iconst (pc := 5) (v := 2) hK dX8_rows_5 (by decide) ?_
  refine j_idiv (pc := 6) hK dX8_rows_6 (by decide) ?_
  refine j_iadd (pc := 7) hK dX8_rows_7 ?_
  refine j_ist2 (pc := 8) hK dX8_rows_8 (by decide) rfl ?_
  refine j_aload_n (pc := 9) hK dX8_rows_9 rfl ?_
  refine yi_getR (pc := 10) (k := 1) hK (by decide) rfl q1241 rfl dX8_rows_10 ?_
  refine j_iload_n (pc := 13) hK dX8_rows_13 rfl ?_
  refine yi_ald (pc := 14) (k := 1) hK rfl rfl (by first | assumption | exact vp_in_c (by decide)) dX8_rows_14 ?_
  refine j_table (pc := 15) hK dX8_rows_15 (by decide +kernel) (by decide +kernel) (fun cD15 => ?_) ⟨fun c15 => ?_, fun c15 => ?_, fun c15 => ?_, fun c15 => ?_, fun c15 => ?_, trivial⟩
  · have n15_1 := cD15 1 (by decide) (by decide)
    have n15_2 := cD15 2 (by decide) (by decide)
    have n15_3 := cD15 3 (by decide) (by decide)
    have n15_4 := cD15 4 (by decide) (by decide)
    have n15_5 := cD15 5 (by decide) (by decide)
    clear cD15
    refine j_iload_n (pc := 81) hK dX8_rows_81 rfl ?_
    exact j_iret (pc := 82) hK hQ (nle rfl) (nle rfl) dX8_rows_82 (fun h w => ⟨_, rfl, by simp [rowsI, *], w⟩)
  · replace c15 : _ = (1 : Int32) := c15
    refine j_iload_n (pc := 48) hK dX8_rows_48 rfl ?_
    refine j_iconst (pc := 49) (v := 1) hK dX8_rows_49 (by decide) ?_
    refine j_isub (pc := 50) hK dX8_rows_50 ?_
    exact j_iret (pc := 51) hK hQ (nle rfl) (nle rfl) dX8_rows_51 (fun h w => ⟨_, rfl, by simp [rowsI, *], w⟩)
  · replace c15 : _ = (2 : Int32) := c15
    refine j_iload_n (pc := 52) hK dX8_rows_52 rfl ?_
    refine j_aload_n (pc := 53) hK dX8_rows_53 rfl ?_
    refine yi_getI (pc := 54) (k := 9) hK (by decide) rfl rfl q1249 rfl dX8_rows_54 ?_
    refine j_iadd (pc := 57) hK dX8_rows_57 ?_
    exact j_iret (pc := 58) hK hQ (nle rfl) (nle rfl) dX8_rows_58 (fun h w => ⟨_, rfl, by simp [rowsI, *], w⟩)
  · replace c15 : _ = (3 : Int32) := c15
    refine j_iload_n (pc := 59) hK dX8_rows_59 rfl ?_
    refine j_iconst (pc := 60) (v := 1) hK dX8_rows_60 (by decide) ?_
    refine j_isub (pc := 61) hK dX8_rows_61 ?_
    refine j_aload_n (pc := 62) hK dX8_rows_62 rfl ?_
    refine yi_getR (pc := 63) (k := 2) hK (by decide) rfl q1242 rfl dX8_rows_63 ?_
    refine j_iload_n (pc := 66) hK dX8_rows_66 rfl ?_
    refine yi_ald (pc := 67) (k := 2) hK rfl rfl (by first | assumption | exact vp_in_c (by decide)) dX8_rows_67 ?_
    refine j_iadd (pc := 68) hK dX8_rows_68 ?_
    exact j_iret (pc := 69) hK hQ (nle rfl) (nle rfl) dX8_rows_69 (fun h w => ⟨_, rfl, by simp [rowsI, *], w⟩)
  · replace c15 : _ = (4 : Int32) := c15
    refine j_iload_n (pc := 70) hK dX8_rows_70 rfl ?_
    refine j_aload_n (pc := 71) hK dX8_rows_71 rfl ?_
    refine yi_getI (pc := 72) (k := 9) hK (by decide) rfl rfl q1249 rfl dX8_rows_72 ?_
    refine j_iadd (pc := 75) hK dX8_rows_75 ?_
    exact j_iret (pc := 76) hK hQ (nle rfl) (nle rfl) dX8_rows_76 (fun h w => ⟨_, rfl, by simp [rowsI, *], w⟩)
  · replace c15 : _ = (5 : Int32) := c15
    refine j_iconst (pc := 77) (v := 2) hK dX8_rows_77 (by decide) ?_
    refine j_iload_n (pc := 78) hK dX8_rows_78 rfl ?_
    refine j_imul (pc := 79) hK dX8_rows_79 ?_
    exact j_iret (pc := 80) hK hQ (nle rfl) (nle rfl) dX8_rows_80 (fun h w => ⟨_, rfl, by simp [rowsI, *], w⟩)
theorem c_Yhearing (b : Int32) (hb : vp_in b 7) : Ct Γ A yX8_hearing wX8_hearing 1 0 0 [.ref (L 40), .int b] (YI Γ L f g T) (RI fun r h => r = hearI f g b ∧ YI Γ L f g T h) := by
  refine Ct.of (cc := cX8_hearing) (nL := 3) (ret := (some .int)) (ls := [some (.ref (L 40)), some (.int b), none]) rfl rfl rfl (nle rfl) ?_
  intro K hK hQ
  refine j_bipush (pc := 0) (v := 12) hK dX8_hearing_0 (by decide) ?_
  refine j_aload_n (pc := 2) hK dX8_hearing_2 rfl ?_
  refine yi_getI (pc := 3) (k := 9) hK (by decide) rfl rfl q1249 rfl dX8_hearing_3 ?_
  refine j_isub (pc := 6) hK dX8_hearing_6 ?_
  refine j_ist2 (pc := 7) hK dX8_hearing_7 (by decide) rfl ?_
  refine j_aload_n (pc := 8) hK dX8_hearing_8 rfl ?_
  refine yi_getR (pc := 9) (k := 1) hK (by decide) rfl q1241 rfl dX8_hearing_9 ?_
  refine j_iload_n (pc := 12) hK dX8_hearing_12 rfl ?_
  refine yi_ald (pc := 13) (k := 1) hK rfl rfl (by first | assumption | exact vp_in_c (by decide)) dX8_hearing_13 ?_
  refine j_table (pc := 14) hK dX8_hearing_14 (by decide +kernel) (by decide +kernel) (fun cD14 => ?_) ⟨fun c14 => ?_, fun c14 => ?_, fun c14 => ?_, fun c14 => ?_, fun c14 => ?_, trivial⟩
  · have n14_1 := cD14 1 (by decide) (by decide)
    have n14_2 := cD14 2 (by decide) (by decide)
    have n14_3 := cD14 3 (by decide) (by decide)
    have n14_4 := cD14 4 (by decide) (by decide)
    have n14_5 := cD14 5 (by decide) (by decide)
    clear cD14
    refine j_iload_n (pc := 102) hK dX8_hearing_102 rfl ?_
    exact j_iret (pc := 103) hK hQ (nle rfl) (nle rfl) dX8_hearing_103 (fun h w => ⟨_, rfl, by simp [hearI, *], w⟩)
  · replace c14 : _ = (1 : Int32) := c14
    refine j_iload_n (pc := 48) hK dX8_hearing_48 rfl ?_
    refine j_aload_n (pc := 49) hK dX8_hearing_49 rfl ?_
    refine yi_getR (pc := 50) (k := 2) hK (by decide) rfl q1242 rfl dX8_hearing_50 ?_
    refine j_iload_n (pc := 53) hK dX8_hearing_53 rfl ?_
    refine yi_ald (pc := 54) (k := 2) hK rfl rfl (by first | assumption | exact vp_in_c (by decide)) dX8_hearing_54 ?_
    refine j_iadd (pc := 55) hK dX8_hearing_55 ?_
    exact j_iret (pc := 56) hK hQ (nle rfl) (nle rfl) dX8_hearing_56 (fun h w => ⟨_, rfl, by simp [hearI, *], w⟩)
  · replace c14 : _ = (2 : Int32) := c14
    refine j_iconst (pc := 57) (v := 0) hK dX8_hearing_57 (by decide) ?_
    refine j_iload_n (pc := 58) hK dX8_hearing_58 rfl ?_
    refine j_iconst (pc := 59) (v := 3) hK dX8_hearing_59 (by decide) ?_
    refine j_isub (pc := 60) hK dX8_hearing_60 ?_
    refine j_mmax (pc := 61) hK hQ q1386 dX8_hearing_61 (nle rfl) (nle rfl) (nle rfl) ?_
    exact j_iret (pc := 64) hK hQ (nle rfl) (nle rfl) dX8_hearing_64 (fun h w => ⟨_, rfl, by simp [hearI, *], w⟩)
  · replace c14 : _ = (3 : Int32) := c14
    refine j_iload_n (pc := 65) hK dX8_hearing_65 rfl ?_
    refine j_aload_n (pc := 66) hK dX8_hearing_66 rfl ?_
    refine yi_getR (pc := 67) (k := 2) hK (by decide) rfl q1242 rfl dX8_hearing_67 ?_
    refine j_iload_n (pc := 70) hK dX8_hearing_70 rfl ?_
    refine yi_ald (pc := 71) (k := 2) hK rfl rfl (by first | assumption | exact vp_in_c (by decide)) dX8_hearing_71 ?_
    refine j_iadd (pc := 72) hK dX8_hearing_72 ?_
    exact j_iret (pc := 73) hK hQ (nle rfl) (nle rfl) dX8_hearing_73 (fun h w => ⟨_, rfl, by simp [hearI, *], w⟩)
  · replace c14 : _ = (4 : Int32) := c14
    refine j_iconst (pc := 74) (v := 0) hK dX8_hearing_74 (by decide) ?_
    refine j_iload_n (pc := 75) hK dX8_hearing_75 rfl ?_
    refine j_iconst (pc := 76) (v := 3) hK dX8_hearing_76 (by decide) ?_
    refine j_isub (pc := 77) hK dX8_hearing_77 ?_
    refine j_iconst (pc := 78) (v := 2) hK dX8_hearing_78 (by decide) ?_
    refine j_idiv (pc := 79) hK dX8_hearing_79 (by decide) ?_
    refine j_mmax (pc := 80) hK hQ q1386 dX8_hearing_80 (nle rfl) (nle rfl) (nle rfl) ?_
    exact j_iret (pc := 83) hK hQ (nle rfl) (nle rfl) dX8_hearing_83 (fun h w => ⟨_, rfl, by simp [hearI, *], w⟩)
  · replace c14 : _ = (5 : Int32) := c14
    refine j_aload_n (pc := 84) hK dX8_hearing_84 rfl ?_
    refine yi_getR (pc := 85) (k := 2) hK (by decide) rfl q1242 rfl dX8_hearing_85 ?_
    refine j_iload_n (pc := 88) hK dX8_hearing_88 rfl ?_
    refine yi_ald (pc := 89) (k := 2) hK rfl rfl (by first | assumption | exact vp_in_c (by decide)) dX8_hearing_89 ?_
    refine j_iconst (pc := 90) (v := 2) hK dX8_hearing_90 (by decide) ?_
    refine j_irem (pc := 91) hK dX8_hearing_91 (by decide) ?_
    refine j_iconst (pc := 92) (v := 1) hK dX8_hearing_92 (by decide) ?_
    refine j_icmp_ne (pc := 93) (tgt := 100) hK dX8_hearing_93 (by decide) (fun c93 => ?_) (fun c93 => ?_)
    · refine j_iload_n (pc := 100) hK dX8_hearing_100 rfl ?_
      exact j_iret (pc := 101) hK hQ (nle rfl) (nle rfl) dX8_hearing_101 (fun h w => ⟨_, rfl, by simp [hearI, *], w⟩)
    · refine j_iconst (pc := 96) (v := 0) hK dX8_hearing_96 (by decide) ?_
      refine j_goto (pc := 97) (tgt := 101) hK dX8_hearing_97 (by decide) ?_
      exact j_iret (pc := 101) hK hQ (nle rfl) (nle rfl) dX8_hearing_101 (fun h w => ⟨_, rfl, by simp [hearI, *], w⟩)
theorem c_YisDigit (c : Int32) : Ct Γ A yX8_isDigit wX8_isDigit 1 0 0 [.int c] P (RI fun r h => r = b2i (48 ≤ c ∧ c ≤ 57) ∧ P h) := by
  refine Ct.of (cc := cX8_isDigit) (nL := 1) (ret := (some .boolean)) (ls := [some (.int c)]) rfl rfl rfl (nle rfl) ?_
  intro K hK hQ
  refine j_iload_n (pc := 0) hK dX8_isDigit_0 rfl ?_
  refine j_bipush (pc := 1) (v := 48) hK dX8_isDigit_1 (by decide) ?_
  refine j_icmp_lt (pc := 3) (tgt := 16) hK dX8_isDigit_3 (by decide) (fun c3 => ?_) (fun c3 => ?_)
  · refine j_iconst (pc := 16) (v := 0) hK dX8_isDigit_16 (by decide) ?_
    exact j_bret (pc := 17) hK hQ (nle rfl) (nle rfl) dX8_isDigit_17 (fun h w => ⟨by decide, _, rfl, by first | (rw [b2i_t]; constructor <;> first | assumption | grind) | (rw [b2i_f]; grind), w⟩)
  · refine j_iload_n (pc := 6) hK dX8_isDigit_6 rfl ?_
    refine j_bipush (pc := 7) (v := 57) hK dX8_isDigit_7 (by decide) ?_
    refine j_icmp_gt (pc := 9) (tgt := 16) hK dX8_isDigit_9 (by decide) (fun c9 => ?_) (fun c9 => ?_)
    · refine j_iconst (pc := 16) (v := 0) hK dX8_isDigit_16 (by decide) ?_
      exact j_bret (pc := 17) hK hQ (nle rfl) (nle rfl) dX8_isDigit_17 (fun h w => ⟨by decide, _, rfl, by first | (rw [b2i_t]; constructor <;> first | assumption | grind) | (rw [b2i_f]; grind), w⟩)
    · refine j_iconst (pc := 12) (v := 1) hK dX8_isDigit_12 (by decide) ?_
      refine j_goto (pc := 13) (tgt := 17) hK dX8_isDigit_13 (by decide) ?_
      exact j_bret (pc := 17) hK hQ (nle rfl) (nle rfl) dX8_isDigit_17 (fun h w => ⟨by decide, _, rfl, by first | (rw [b2i_t]; constructor <;> first | assumption | grind) | (rw [b2i_f]; grind), w⟩)
theorem c_YisLetter (c : Int32) : Ct Γ A yX8_isLetter wX8_isLetter 1 0 0 [.int c] P (RI fun r h => r = b2i (97 ≤ c ∧ c ≤ 122) ∧ P h) := by
  refine Ct.of (cc := cX8_isLetter) (nL := 1) (ret := (some .boolean)) (ls := [some (.int c)]) rfl rfl rfl (nle rfl) ?_
  intro K hK hQ
  refine j_iload_n (pc := 0) hK dX8_isLetter_0 rfl ?_
  refine j_bipush (pc := 1) (v := 97) hK dX8_isLetter_1 (by decide) ?_
  refine j_icmp_lt (pc := 3) (tgt := 16) hK dX8_isLetter_3 (by decide) (fun c3 => ?_) (fun c3 => ?_)
  · refine j_iconst (pc := 16) (v := 0) hK dX8_isLetter_16 (by decide) ?_
    exact j_bret (pc := 17) hK hQ (nle rfl) (nle rfl) dX8_isLetter_17 (fun h w => ⟨by decide, _, rfl, by first | (rw [b2i_t]; constructor <;> first | assumption | grind) | (rw [b2i_f]; grind), w⟩)
  · refine j_iload_n (pc := 6) hK dX8_isLetter_6 rfl ?_
    refine j_bipush (pc := 7) (v := 122) hK dX8_isLetter_7 (by decide) ?_
    refine j_icmp_gt (pc := 9) (tgt := 16) hK dX8_isLetter_9 (by decide) (fun c9 => ?_) (fun c9 => ?_)
    · refine j_iconst (pc := 16) (v := 0) hK dX8_isLetter_16 (by decide) ?_
      exact j_bret (pc := 17) hK hQ (nle rfl) (nle rfl) dX8_isLetter_17 (fun h w => ⟨by decide, _, rfl, by first | (rw [b2i_t]; constructor <;> first | assumption | grind) | (rw [b2i_f]; grind), w⟩)
    · refine j_iconst (pc := 12) (v := 1) hK dX8_isLetter_12 (by decide) ?_
      refine j_goto (pc := 13) (tgt := 17) hK dX8_isLetter_13 (by decide) ?_
      exact j_bret (pc := 17) hK hQ (nle rfl) (nle rfl) dX8_isLetter_17 (fun h w => ⟨by decide, _, rfl, by first | (rw [b2i_t]; constructor <;> first | assumption | grind) | (rw [b2i_f]; grind), w⟩)
end Y2
