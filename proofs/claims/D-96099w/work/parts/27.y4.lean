/-! thoseWho, count, needs, sheet, cell, taken -/
set_option maxRecDepth 100000
section S4
variable (f : Nat → Int32) (g : Nat → Int32 → Int32)
def oCount (nb : Nat) (what : Int32) : Int32 :=
  if what = 0 then f 0 else if what = 1 then cntS g 0 nb else if what = 2 then cntS g 1 nb else if what = 3 then cntS g 2 nb else if what = 4 then f 10 else if what = 5 then f 14 else if what = 6 then f 13 else if what = 7 then f 17 else if what = 8 then f 15 else if what = 9 then f 18 else -2
def needI (b : Int32) : Int32 := farI (g 3 b) 0 * rowsI f g b
def zr (s : Int32) : Nat → Nat → Int32 → Int32
  | 0 => g
  | n + 1 => ug (zr s n) 38 (40 * s + nI n) 0
def oSheet (s sort n : Int32) : R3 :=
  if ¬ (0 ≤ s ∧ s ≤ 3) then (-2, f, g) else if ¬ (-1 ≤ sort ∧ sort ≤ 2) then (-2, f, g) else if sort = -1 then (1, f, ug g 36 s (-1)) else if 40 < n then (-2, f, g) else if n < 0 then (-14, f, g) else (1, f, zr (ug (ug g 36 s sort) 37 s n) s 40)
def oCell (s i v : Int32) : R3 :=
  if ¬ (0 ≤ s ∧ s ≤ 3) then (-2, f, g) else if g 36 s = -1 then (-11, f, g) else if ¬ (0 ≤ i ∧ i ≤ g 37 s - 1) then (-12, f, g)
  else (1, f, ug g 38 (40 * s + i) (if g 36 s = 0 then v.toInt8.toInt32 else if g 36 s = 1 then v.toInt16.toInt32 else v))
def oTaken (b k : Int32) : Int32 :=
  if ¬ (0 ≤ k ∧ k ≤ 5) then -2 else if ¬ (0 ≤ b ∧ b ≤ f 0 - 1) then -11 else if g 1 b = k ∨ k = 0 ∨ (g 1 b = 3 ∧ k = 1) ∨ (g 1 b = 4 ∧ k = 2) then g 2 b else -13
end S4
theorem sh_in {s : Int32} (h : 0 ≤ s ∧ s ≤ 3) : vp_in s 4 := inb_of h.1 (by rw [show nI 4 = (4 : Int32) by decide]; grind) (by decide)
theorem sh_4 {s : Int32} (h : 0 ≤ s ∧ s ≤ 3) : s = nI 0 ∨ s = nI 1 ∨ s = nI 2 ∨ s = nI 3 := by
  rw [show nI 0 = (0 : Int32) by decide, show nI 1 = (1 : Int32) by decide, show nI 2 = (2 : Int32) by decide, show nI 3 = (3 : Int32) by decide]
  grind
theorem it_nI {s : Int32} (h : 0 ≤ s ∧ s ≤ 3) : ∃ k : Nat, k ≤ 3 ∧ s = nI k ∧ ∀ i : Nat, 40 * s + nI i = nI (40 * k + i) := by
  have e : ∀ k i : Nat, 40 * nI k + nI i = nI (40 * k + i) := fun k i => by
    rw [show (40 : Int32) = nI 40 by decide, pk_mul, nI_add]
  rcases sh_4 h with rfl | rfl | rfl | rfl
  · exact ⟨0, by omega, rfl, e 0⟩
  · exact ⟨1, by omega, rfl, e 1⟩
  · exact ⟨2, by omega, rfl, e 2⟩
  · exact ⟨3, by omega, rfl, e 3⟩
theorem it_in {s : Int32} (h : 0 ≤ s ∧ s ≤ 3) {i : Nat} (hi : i < 40) : vp_in (40 * s + nI i) 160 := by
  obtain ⟨k, hk, -, e⟩ := it_nI h
  rw [e]
  exact vp_in_nI (by omega) (by decide)
theorem it_in' {s i : Int32} (h : 0 ≤ s ∧ s ≤ 3) (h0 : 0 ≤ i) (hi : i < 40) : vp_in (40 * s + i) 160 := by
  obtain ⟨j, hj, rfl⟩ := nI_of (x := i) (by grind)
  exact it_in h (by
    have e : (40 : Int32) = nI 40 := by decide
    rw [e, nI_ltI hj (by decide)] at hi
    exact hi)
section Y4
variable {Γ : Gam} {A : Nat → Prop} {L : Nat → Nat} {f : Nat → Int32} {g : Nat → Int32 → Int32} {T : TX} {P : PH → Prop}
theorem c_YthoseWho (s : Int32) {nb : Nat} (hn : nb ≤ 7) (e0 : f 0 = nI nb) : Ct Γ A yX8_thoseWho wX8_thoseWho 1 0 0 [.ref (L 40), .int s] (YI Γ L f g T) (RI fun r h => r = cntS g s nb ∧ YI Γ L f g T h) := by
  refine Ct.of (cc := cX8_thoseWho) (nL := 4) (ret := (some .int)) (ls := [some (.ref (L 40)), some (.int s), none, none]) rfl rfl rfl (nle rfl) ?_
  intro K hK hQ
  have loop : ∀ (n i : Nat), i + n = nb → J Γ A K 4 [some (.ref (L 40)), some (.int s), some (.int (cntS g s i)), some (.int (nI i))] [] (YI Γ L f g T) 0 0 := by
    intro n
    induction n with
    | zero =>
      intro i hi
      refine j_iload_n (pc := 4) hK dX8_thoseWho_4 rfl ?_
      refine j_aload_n (pc := 5) hK dX8_thoseWho_5 rfl ?_
      refine yi_getI (pc := 6) (k := 0) hK (by decide) rfl rfl q1240 rfl dX8_thoseWho_6 ?_
      refine j_icmp_ge (pc := 9) (tgt := 31) hK dX8_thoseWho_9 (by decide) (fun c9 => ?_) (fun c9 => absurd (by rw [e0]; exact nI_le (by omega) (by omega)) c9)
      refine j_iload_n (pc := 31) hK dX8_thoseWho_31 rfl ?_
      exact j_iret (pc := 32) hK hQ (nle rfl) (nle rfl) dX8_thoseWho_32 (fun h w => ⟨_, rfl, by rw [show i = nb by omega], w⟩)
    | succ n ih =>
      intro i hi
      have hb : vp_in (nI i) 7 := vp_in_nI (by omega) (by decide)
      refine j_iload_n (pc := 4) hK dX8_thoseWho_4 rfl ?_
      refine j_aload_n (pc := 5) hK dX8_thoseWho_5 rfl ?_
      refine yi_getI (pc := 6) (k := 0) hK (by decide) rfl rfl q1240 rfl dX8_thoseWho_6 ?_
      refine j_icmp_ge (pc := 9) (tgt := 31) hK dX8_thoseWho_9 (by decide) (fun c9 => absurd c9 (by rw [e0]; exact nI_ge (by omega) (by omega))) (fun c9 => ?_)
      refine j_aload_n (pc := 12) hK dX8_thoseWho_12 rfl ?_
      refine yi_getR (pc := 13) (k := 6) hK (by decide) rfl q1246 rfl dX8_thoseWho_13 ?_
      refine j_iload_n (pc := 16) hK dX8_thoseWho_16 rfl ?_
      refine yi_ald (pc := 17) (k := 6) hK rfl rfl (by first | assumption | exact vp_in_c (by decide)) dX8_thoseWho_17 ?_
      refine j_iload_n (pc := 18) hK dX8_thoseWho_18 rfl ?_
      refine j_icmp_ne (pc := 19) (tgt := 25) hK dX8_thoseWho_19 (by decide) (fun c19 => ?_) (fun c19 => ?_)
      · refine j_iinc3 (pc := 25) (v := 1) hK dX8_thoseWho_25 (by decide) rfl (by decide) ?_
        refine j_goto (pc := 28) (tgt := 4) hK dX8_thoseWho_28 (by decide) ?_
        rw [nI_1]
        first | rw [show cntS g s i + 1 = cntS g s (i + 1) by simp [cntS, *]] | rw [show cntS g s i = cntS g s (i + 1) by simp [cntS, *]]
        exact ih (i + 1) (by omega)
      · refine j_iinc2 (pc := 22) (v := 1) hK dX8_thoseWho_22 (by decide) rfl (by decide) ?_
        refine j_iinc3 (pc := 25) (v := 1) hK dX8_thoseWho_25 (by decide) rfl (by decide) ?_
        refine j_goto (pc := 28) (tgt := 4) hK dX8_thoseWho_28 (by decide) ?_
        rw [nI_1]
        first | rw [show cntS g s i + 1 = cntS g s (i + 1) by simp [cntS, *]] | rw [show cntS g s i = cntS g s (i + 1) by simp [cntS, *]]
        exact ih (i + 1) (by omega)
  refine j_iconst (pc := 0) (v := 0) hK dX8_thoseWho_0 (by decide) ?_
  refine j_ist2 (pc := 1) hK dX8_thoseWho_1 (by decide) rfl ?_
  refine j_iconst (pc := 2) (v := 0) hK dX8_thoseWho_2 (by decide) ?_
  refine j_ist3 (pc := 3) hK dX8_thoseWho_3 (by decide) rfl ?_
  exact loop nb 0 (by omega)
theorem c_Ycount (what : Int32) {nb : Nat} (hn : nb ≤ 7) (e0 : f 0 = nI nb) : Ct Γ A yX8_count wX8_count 2 0 0 [.ref (L 40), .int what] (YI Γ L f g T) (RI fun r h => r = oCount f g nb what ∧ YI Γ L f g T h) := by
  refine Ct.of (cc := cX8_count) (nL := 2) (ret := (some .int)) (ls := [some (.ref (L 40)), some (.int what)]) rfl rfl rfl (nle rfl) ?_
  intro K hK hQ
  refine j_iload_n (pc := 0) hK dX8_count_0 rfl ?_
  refine j_table (pc := 1) hK dX8_count_1 (by decide +kernel) (by decide +kernel) (fun cD1 => ?_) ⟨fun c1 => ?_, fun c1 => ?_, fun c1 => ?_, fun c1 => ?_, fun c1 => ?_, fun c1 => ?_, fun c1 => ?_, fun c1 => ?_, fun c1 => ?_, fun c1 => ?_, trivial⟩
  · have n1_0 := cD1 0 (by decide) (by decide)
    have n1_1 := cD1 1 (by decide) (by decide)
    have n1_2 := cD1 2 (by decide) (by decide)
    have n1_3 := cD1 3 (by decide) (by decide)
    have n1_4 := cD1 4 (by decide) (by decide)
    have n1_5 := cD1 5 (by decide) (by decide)
    have n1_6 := cD1 6 (by decide) (by decide)
    have n1_7 := cD1 7 (by decide) (by decide)
    have n1_8 := cD1 8 (by decide) (by decide)
    have n1_9 := cD1 9 (by decide) (by decide)
    clear cD1
    refine j_bipush (pc := 109) (v := (-2)) hK dX8_count_109 (by decide) ?_
    exact j_iret (pc := 111) hK hQ (nle rfl) (nle rfl) dX8_count_111 (fun h w => ⟨_, rfl, by clear hK hQ; unfold oCount; grind, w⟩)
  · replace c1 : _ = (0 : Int32) := c1
    refine j_aload_n (pc := 56) hK dX8_count_56 rfl ?_
    refine yi_getI (pc := 57) (k := 0) hK (by decide) rfl rfl q1240 rfl dX8_count_57 ?_
    exact j_iret (pc := 60) hK hQ (nle rfl) (nle rfl) dX8_count_60 (fun h w => ⟨_, rfl, by clear hK hQ; unfold oCount; grind, w⟩)
  · replace c1 : _ = (1 : Int32) := c1
    refine j_aload_n (pc := 61) hK dX8_count_61 rfl ?_
    refine j_iconst (pc := 62) (v := 0) hK dX8_count_62 (by decide) ?_
    refine j_callV (pc := 63) hK hQ (c_YthoseWho _ hn e0) cal_X8_thoseWho yi_isC q1518 dX8_count_63 rfl rfl (nle rfl) (nle rfl) (nle rfl) (nle rfl) (kr_i fun r63 => ?_) kx_i
    refine J.pre fun e63 => ?_
    subst e63
    exact j_iret (pc := 66) hK hQ (nle rfl) (nle rfl) dX8_count_66 (fun h w => ⟨_, rfl, by clear hK hQ; unfold oCount; grind, w⟩)
  · replace c1 : _ = (2 : Int32) := c1
    refine j_aload_n (pc := 67) hK dX8_count_67 rfl ?_
    refine j_iconst (pc := 68) (v := 1) hK dX8_count_68 (by decide) ?_
    refine j_callV (pc := 69) hK hQ (c_YthoseWho _ hn e0) cal_X8_thoseWho yi_isC q1518 dX8_count_69 rfl rfl (nle rfl) (nle rfl) (nle rfl) (nle rfl) (kr_i fun r69 => ?_) kx_i
    refine J.pre fun e69 => ?_
    subst e69
    exact j_iret (pc := 72) hK hQ (nle rfl) (nle rfl) dX8_count_72 (fun h w => ⟨_, rfl, by clear hK hQ; unfold oCount; grind, w⟩)
  · replace c1 : _ = (3 : Int32) := c1
    refine j_aload_n (pc := 73) hK dX8_count_73 rfl ?_
    refine j_iconst (pc := 74) (v := 2) hK dX8_count_74 (by decide) ?_
    refine j_callV (pc := 75) hK hQ (c_YthoseWho _ hn e0) cal_X8_thoseWho yi_isC q1518 dX8_count_75 rfl rfl (nle rfl) (nle rfl) (nle rfl) (nle rfl) (kr_i fun r75 => ?_) kx_i
    refine J.pre fun e75 => ?_
    subst e75
    exact j_iret (pc := 78) hK hQ (nle rfl) (nle rfl) dX8_count_78 (fun h w => ⟨_, rfl, by clear hK hQ; unfold oCount; grind, w⟩)
  · replace c1 : _ = (4 : Int32) := c1
    refine j_aload_n (pc := 79) hK dX8_count_79 rfl ?_
    refine yi_getI (pc := 80) (k := 10) hK (by decide) rfl rfl q1250 rfl dX8_count_80 ?_
    exact j_iret (pc := 83) hK hQ (nle rfl) (nle rfl) dX8_count_83 (fun h w => ⟨_, rfl, by clear hK hQ; unfold oCount; grind, w⟩)
  · replace c1 : _ = (5 : Int32) := c1
    refine j_aload_n (pc := 84) hK dX8_count_84 rfl ?_
    refine yi_getI (pc := 85) (k := 14) hK (by decide) rfl rfl q1254 rfl dX8_count_85 ?_
    exact j_iret (pc := 88) hK hQ (nle rfl) (nle rfl) dX8_count_88 (fun h w => ⟨_, rfl, by clear hK hQ; unfold oCount; grind, w⟩)
  · replace c1 : _ = (6 : Int32) := c1
    refine j_aload_n (pc := 89) hK dX8_count_89 rfl ?_
    refine yi_getI (pc := 90) (k := 13) hK (by decide) rfl rfl q1253 rfl dX8_count_90 ?_
    exact j_iret (pc := 93) hK hQ (nle rfl) (nle rfl) dX8_count_93 (fun h w => ⟨_, rfl, by clear hK hQ; unfold oCount; grind, w⟩)
  · replace c1 : _ = (7 : Int32) := c1
    refine j_aload_n (pc := 94) hK dX8_count_94 rfl ?_
    refine yi_getI (pc := 95) (k := 17) hK (by decide) rfl rfl q1257 rfl dX8_count_95 ?_
    exact j_iret (pc := 98) hK hQ (nle rfl) (nle rfl) dX8_count_98 (fun h w => ⟨_, rfl, by clear hK hQ; unfold oCount; grind, w⟩)
  · replace c1 : _ = (8 : Int32) := c1
    refine j_aload_n (pc := 99) hK dX8_count_99 rfl ?_
    refine yi_getI (pc := 100) (k := 15) hK (by decide) rfl rfl q1255 rfl dX8_count_100 ?_
    exact j_iret (pc := 103) hK hQ (nle rfl) (nle rfl) dX8_count_103 (fun h w => ⟨_, rfl, by clear hK hQ; unfold oCount; grind, w⟩)
  · replace c1 : _ = (9 : Int32) := c1
    refine j_aload_n (pc := 104) hK dX8_count_104 rfl ?_
    refine yi_getI (pc := 105) (k := 18) hK (by decide) rfl rfl q1258 rfl dX8_count_105 ?_
    exact j_iret (pc := 108) hK hQ (nle rfl) (nle rfl) dX8_count_108 (fun h w => ⟨_, rfl, by clear hK hQ; unfold oCount; grind, w⟩)
theorem c_Yneeds (b : Int32) (hb : vp_in b 7) : Ct Γ A yX8_needs wX8_needs 2 0 0 [.ref (L 40), .int b] (YI Γ L f g T) (RI fun r h => r = needI f g b ∧ YI Γ L f g T h) := by
  refine Ct.of (cc := cX8_needs) (nL := 2) (ret := (some .int)) (ls := [some (.ref (L 40)), some (.int b)]) rfl rfl rfl (nle rfl) ?_
  intro K hK hQ
  refine j_aload_n (pc := 0) hK dX8_needs_0 rfl ?_
  refine yi_getR (pc := 1) (k := 3) hK (by decide) rfl q1243 rfl dX8_needs_1 ?_
  refine j_iload_n (pc := 4) hK dX8_needs_4 rfl ?_
  refine yi_ald (pc := 5) (k := 3) hK rfl rfl (by first | assumption | exact vp_in_c (by decide)) dX8_needs_5 ?_
  refine j_iconst (pc := 6) (v := 0) hK dX8_needs_6 (by decide) ?_
  refine j_callS (pc := 7) hK hQ (c_Yfar _ _) cal_X8_far q1395 dX8_needs_7 rfl rfl (nle rfl) (nle rfl) (nle rfl) (nle rfl) (kr_i fun r7 => ?_) kx_i
  refine J.pre fun e7 => ?_
  subst e7
  refine j_aload_n (pc := 10) hK dX8_needs_10 rfl ?_
  refine j_iload_n (pc := 11) hK dX8_needs_11 rfl ?_
  refine j_callV (pc := 12) hK hQ (c_Yrows _ (by assumption)) cal_X8_rows yi_isC q1378 dX8_needs_12 rfl rfl (nle rfl) (nle rfl) (nle rfl) (nle rfl) (kr_i fun r12 => ?_) kx_i
  refine J.pre fun e12 => ?_
  subst e12
  refine j_imul (pc := 15) hK dX8_needs_15 ?_
  exact j_iret (pc := 16) hK hQ (nle rfl) (nle rfl) dX8_needs_16 (fun h w => ⟨_, rfl, rfl, w⟩)
theorem c_Ysheet (s sort n : Int32) : Ct Γ A yX8_sheet wX8_sheet 2 0 0 [.ref (L 40), .int s, .int sort, .int n] (YI Γ L f g T) (RI (YO Γ L T (oSheet f g s sort n))) := by
  refine Ct.of (cc := cX8_sheet) (nL := 5) (ret := (some .int)) (ls := [some (.ref (L 40)), some (.int s), some (.int sort), some (.int n), none]) rfl rfl rfl (nle rfl) ?_
  intro K hK hQ
  have loop : ∀ (g0 : Nat → Int32 → Int32), (0 ≤ s ∧ s ≤ 3) → oSheet f g s sort n = (1, f, zr g0 s 40) → ∀ (m i : Nat), i + m = 40 → J Γ A K 68 [some (.ref (L 40)), some (.int s), some (.int sort), some (.int n), some (.int (nI i))] [] (YI Γ L f (zr g0 s i) T) 0 0 := by
    intro g0 hs hq m
    induction m with
    | zero =>
      intro i hi
      have : i = 40 := by omega
      subst this
      refine j_iload (pc := 68) hK dX8_sheet_68 rfl ?_
      refine j_bipush (pc := 70) (v := 40) hK dX8_sheet_70 (by decide) ?_
      refine j_icmp_ge (pc := 72) (tgt := 94) hK dX8_sheet_72 (by decide) (fun c72 => ?_) (fun c72 => absurd (by decide) c72)
      refine j_iconst (pc := 94) (v := 1) hK dX8_sheet_94 (by decide) ?_
      exact j_iret (pc := 95) hK hQ (nle rfl) (nle rfl) dX8_sheet_95 (fun h w => ⟨_, rfl, _, _, hq, w⟩)
    | succ m ih =>
      intro i hi
      have hb : vp_in (40 * s + nI i) 160 := it_in hs (by omega)
      refine j_iload (pc := 68) hK dX8_sheet_68 rfl ?_
      refine j_bipush (pc := 70) (v := 40) hK dX8_sheet_70 (by decide) ?_
      refine j_icmp_ge (pc := 72) (tgt := 94) hK dX8_sheet_72 (by decide) (fun c72 => absurd c72 (by rw [show (40 : Int32) = nI 40 by decide]; exact nI_ge (by omega) (by decide))) (fun c72 => ?_)
      refine j_aload_n (pc := 75) hK dX8_sheet_75 rfl ?_
      refine yi_getR (pc := 76) (k := 38) hK (by decide) rfl q1278 rfl dX8_sheet_76 ?_
      refine j_bipush (pc := 79) (v := 40) hK dX8_sheet_79 (by decide) ?_
      refine j_iload_n (pc := 81) hK dX8_sheet_81 rfl ?_
      refine j_imul (pc := 82) hK dX8_sheet_82 ?_
      refine j_iload (pc := 83) hK dX8_sheet_83 rfl ?_
      refine j_iadd (pc := 85) hK dX8_sheet_85 ?_
      refine j_iconst (pc := 86) (v := 0) hK dX8_sheet_86 (by decide) ?_
      refine yi_ast (pc := 87) (k := 38) hK rfl rfl (by decide) (by decide) (by first | assumption | exact vp_in_c (by decide)) dX8_sheet_87 ?_
      refine j_iinc4 (pc := 88) (v := 1) hK dX8_sheet_88 (by decide) rfl (by decide) ?_
      refine j_goto (pc := 91) (tgt := 68) hK dX8_sheet_91 (by decide) ?_
      rw [nI_1]
      exact ih (i + 1) (by omega)
  refine j_iload_n (pc := 0) hK dX8_sheet_0 rfl ?_
  refine j_iconst (pc := 1) (v := 0) hK dX8_sheet_1 (by decide) ?_
  refine j_iconst (pc := 2) (v := 3) hK dX8_sheet_2 (by decide) ?_
  refine j_callS (pc := 3) hK hQ (c_Ywithin _ _ _) cal_X8_within q1167 dX8_sheet_3 rfl rfl (nle rfl) (nle rfl) (nle rfl) (nle rfl) (kr_i fun r3 => ?_) kx_i
  refine J.pre fun e3 => ?_
  subst e3
  refine j_if_eq_b (pc := 6) (tgt := 18) hK dX8_sheet_6 (by decide) (fun c6 => ?_) (fun c6 => ?_)
  · refine j_bipush (pc := 18) (v := (-2)) hK dX8_sheet_18 (by decide) ?_
    exact j_iret (pc := 20) hK hQ (nle rfl) (nle rfl) dX8_sheet_20 (fun h w => ⟨_, rfl, _, _, by clear hK hQ loop; unfold oSheet; grind, w⟩)
  · refine j_iload_n (pc := 9) hK dX8_sheet_9 rfl ?_
    refine j_iconst (pc := 10) (v := (-1)) hK dX8_sheet_10 (by decide) ?_
    refine j_iconst (pc := 11) (v := 2) hK dX8_sheet_11 (by decide) ?_
    refine j_callS (pc := 12) hK hQ (c_Ywithin _ _ _) cal_X8_within q1167 dX8_sheet_12 rfl rfl (nle rfl) (nle rfl) (nle rfl) (nle rfl) (kr_i fun r12 => ?_) kx_i
    refine J.pre fun e12 => ?_
    subst e12
    refine j_if_ne_b (pc := 15) (tgt := 21) hK dX8_sheet_15 (by decide) (fun c15 => ?_) (fun c15 => ?_)
    · refine j_iload_n (pc := 21) hK dX8_sheet_21 rfl ?_
      refine j_iconst (pc := 22) (v := (-1)) hK dX8_sheet_22 (by decide) ?_
      refine j_icmp_ne (pc := 23) (tgt := 35) hK dX8_sheet_23 (by decide) (fun c23 => ?_) (fun c23 => ?_)
      · refine j_iload_n (pc := 35) hK dX8_sheet_35 rfl ?_
        refine j_bipush (pc := 36) (v := 40) hK dX8_sheet_36 (by decide) ?_
        refine j_icmp_le (pc := 38) (tgt := 44) hK dX8_sheet_38 (by decide) (fun c38 => ?_) (fun c38 => ?_)
        · refine j_iload_n (pc := 44) hK dX8_sheet_44 rfl ?_
          refine j_if_ge (pc := 45) (tgt := 51) hK dX8_sheet_45 (by decide) (fun c45 => ?_) (fun c45 => ?_)
          · have hb := sh_in c6
            refine j_aload_n (pc := 51) hK dX8_sheet_51 rfl ?_
            refine yi_getR (pc := 52) (k := 36) hK (by decide) rfl q1276 rfl dX8_sheet_52 ?_
            refine j_iload_n (pc := 55) hK dX8_sheet_55 rfl ?_
            refine j_iload_n (pc := 56) hK dX8_sheet_56 rfl ?_
            refine yi_ast (pc := 57) (k := 36) hK rfl rfl (by decide) (by decide) (by first | assumption | exact vp_in_c (by decide)) dX8_sheet_57 ?_
            refine j_aload_n (pc := 58) hK dX8_sheet_58 rfl ?_
            refine yi_getR (pc := 59) (k := 37) hK (by decide) rfl q1277 rfl dX8_sheet_59 ?_
            refine j_iload_n (pc := 62) hK dX8_sheet_62 rfl ?_
            refine j_iload_n (pc := 63) hK dX8_sheet_63 rfl ?_
            refine yi_ast (pc := 64) (k := 37) hK rfl rfl (by decide) (by decide) (by first | assumption | exact vp_in_c (by decide)) dX8_sheet_64 ?_
            refine j_iconst (pc := 65) (v := 0) hK dX8_sheet_65 (by decide) ?_
            refine j_ist4 (pc := 66) hK dX8_sheet_66 (by decide) rfl ?_
            exact loop (ug (ug g 36 s sort) 37 s n) c6 (by clear hK hQ loop; unfold oSheet; grind) 40 0 (by omega)
          · refine j_bipush (pc := 48) (v := (-14)) hK dX8_sheet_48 (by decide) ?_
            exact j_iret (pc := 50) hK hQ (nle rfl) (nle rfl) dX8_sheet_50 (fun h w => ⟨_, rfl, _, _, by clear hK hQ loop; unfold oSheet; grind, w⟩)
        · refine j_bipush (pc := 41) (v := (-2)) hK dX8_sheet_41 (by decide) ?_
          exact j_iret (pc := 43) hK hQ (nle rfl) (nle rfl) dX8_sheet_43 (fun h w => ⟨_, rfl, _, _, by clear hK hQ loop; unfold oSheet; grind, w⟩)
      · have hb := sh_in c6
        refine j_aload_n (pc := 26) hK dX8_sheet_26 rfl ?_
        refine yi_getR (pc := 27) (k := 36) hK (by decide) rfl q1276 rfl dX8_sheet_27 ?_
        refine j_iload_n (pc := 30) hK dX8_sheet_30 rfl ?_
        refine j_iconst (pc := 31) (v := (-1)) hK dX8_sheet_31 (by decide) ?_
        refine yi_ast (pc := 32) (k := 36) hK rfl rfl (by decide) (by decide) (by first | assumption | exact vp_in_c (by decide)) dX8_sheet_32 ?_
        refine j_iconst (pc := 33) (v := 1) hK dX8_sheet_33 (by decide) ?_
        exact j_iret (pc := 34) hK hQ (nle rfl) (nle rfl) dX8_sheet_34 (fun h w => ⟨_, rfl, _, _, by clear hK hQ loop; unfold oSheet; grind, w⟩)
    · refine j_bipush (pc := 18) (v := (-2)) hK dX8_sheet_18 (by decide) ?_
      exact j_iret (pc := 20) hK hQ (nle rfl) (nle rfl) dX8_sheet_20 (fun h w => ⟨_, rfl, _, _, by clear hK hQ loop; unfold oSheet; grind, w⟩)
theorem c_Ycell (s i v : Int32) (hz : ∀ s, 0 ≤ s → s ≤ 3 → 0 ≤ g 37 s ∧ g 37 s ≤ 40) : Ct Γ A yX8_cell wX8_cell 2 0 0 [.ref (L 40), .int s, .int i, .int v] (YI Γ L f g T) (RI (YO Γ L T (oCell f g s i v))) := by
  refine Ct.of (cc := cX8_cell) (nL := 4) (ret := (some .int)) (ls := [some (.ref (L 40)), some (.int s), some (.int i), some (.int v)]) rfl rfl rfl (nle rfl) ?_
  intro K hK hQ
  refine j_iload_n (pc := 0) hK dX8_cell_0 rfl ?_
  refine j_iconst (pc := 1) (v := 0) hK dX8_cell_1 (by decide) ?_
  refine j_iconst (pc := 2) (v := 3) hK dX8_cell_2 (by decide) ?_
  refine j_callS (pc := 3) hK hQ (c_Ywithin _ _ _) cal_X8_within q1167 dX8_cell_3 rfl rfl (nle rfl) (nle rfl) (nle rfl) (nle rfl) (kr_i fun r3 => ?_) kx_i
  refine J.pre fun e3 => ?_
  subst e3
  refine j_if_ne_b (pc := 6) (tgt := 12) hK dX8_cell_6 (by decide) (fun c6 => ?_) (fun c6 => ?_)
  · have hb := sh_in c6
    have hz' := hz s c6.1 c6.2
    refine j_aload_n (pc := 12) hK dX8_cell_12 rfl ?_
    refine yi_getR (pc := 13) (k := 36) hK (by decide) rfl q1276 rfl dX8_cell_13 ?_
    refine j_iload_n (pc := 16) hK dX8_cell_16 rfl ?_
    refine yi_ald (pc := 17) (k := 36) hK rfl rfl (by first | assumption | exact vp_in_c (by decide)) dX8_cell_17 ?_
    refine j_iconst (pc := 18) (v := (-1)) hK dX8_cell_18 (by decide) ?_
    refine j_icmp_ne (pc := 19) (tgt := 25) hK dX8_cell_19 (by decide) (fun c19 => ?_) (fun c19 => ?_)
    · refine j_iload_n (pc := 25) hK dX8_cell_25 rfl ?_
      refine j_iconst (pc := 26) (v := 0) hK dX8_cell_26 (by decide) ?_
      refine j_aload_n (pc := 27) hK dX8_cell_27 rfl ?_
      refine yi_getR (pc := 28) (k := 37) hK (by decide) rfl q1277 rfl dX8_cell_28 ?_
      refine j_iload_n (pc := 31) hK dX8_cell_31 rfl ?_
      refine yi_ald (pc := 32) (k := 37) hK rfl rfl (by first | assumption | exact vp_in_c (by decide)) dX8_cell_32 ?_
      refine j_iconst (pc := 33) (v := 1) hK dX8_cell_33 (by decide) ?_
      refine j_isub (pc := 34) hK dX8_cell_34 ?_
      refine j_callS (pc := 35) hK hQ (c_Ywithin _ _ _) cal_X8_within q1167 dX8_cell_35 rfl rfl (nle rfl) (nle rfl) (nle rfl) (nle rfl) (kr_i fun r35 => ?_) kx_i
      refine J.pre fun e35 => ?_
      subst e35
      refine j_if_ne_b (pc := 38) (tgt := 44) hK dX8_cell_38 (by decide) (fun c38 => ?_) (fun c38 => ?_)
      · have hb2 : vp_in (40 * s + i) 160 := it_in' c6 c38.1 (by clear hK hQ; grind)
        refine j_aload_n (pc := 44) hK dX8_cell_44 rfl ?_
        refine yi_getR (pc := 45) (k := 38) hK (by decide) rfl q1278 rfl dX8_cell_45 ?_
        refine j_bipush (pc := 48) (v := 40) hK dX8_cell_48 (by decide) ?_
        refine j_iload_n (pc := 50) hK dX8_cell_50 rfl ?_
        refine j_imul (pc := 51) hK dX8_cell_51 ?_
        refine j_iload_n (pc := 52) hK dX8_cell_52 rfl ?_
        refine j_iadd (pc := 53) hK dX8_cell_53 ?_
        refine j_aload_n (pc := 54) hK dX8_cell_54 rfl ?_
        refine yi_getR (pc := 55) (k := 36) hK (by decide) rfl q1276 rfl dX8_cell_55 ?_
        refine j_iload_n (pc := 58) hK dX8_cell_58 rfl ?_
        refine yi_ald (pc := 59) (k := 36) hK rfl rfl (by first | assumption | exact vp_in_c (by decide)) dX8_cell_59 ?_
        refine j_if_ne (pc := 60) (tgt := 68) hK dX8_cell_60 (by decide) (fun c60 => ?_) (fun c60 => ?_)
        · refine j_aload_n (pc := 68) hK dX8_cell_68 rfl ?_
          refine yi_getR (pc := 69) (k := 36) hK (by decide) rfl q1276 rfl dX8_cell_69 ?_
          refine j_iload_n (pc := 72) hK dX8_cell_72 rfl ?_
          refine yi_ald (pc := 73) (k := 36) hK rfl rfl (by first | assumption | exact vp_in_c (by decide)) dX8_cell_73 ?_
          refine j_iconst (pc := 74) (v := 1) hK dX8_cell_74 (by decide) ?_
          refine j_icmp_ne (pc := 75) (tgt := 83) hK dX8_cell_75 (by decide) (fun c75 => ?_) (fun c75 => ?_)
          · refine j_iload_n (pc := 83) hK dX8_cell_83 rfl ?_
            refine yi_ast (pc := 84) (k := 38) hK rfl rfl (by decide) (by decide) (by first | assumption | exact vp_in_c (by decide)) dX8_cell_84 ?_
            refine j_iconst (pc := 85) (v := 1) hK dX8_cell_85 (by decide) ?_
            exact j_iret (pc := 86) hK hQ (nle rfl) (nle rfl) dX8_cell_86 (fun h w => ⟨_, rfl, _, _, by clear hK hQ; unfold oCell; grind, w⟩)
          · refine j_iload_n (pc := 78) hK dX8_cell_78 rfl ?_
            refine j_i2s (pc := 79) hK dX8_cell_79 ?_
            refine j_goto (pc := 80) (tgt := 84) hK dX8_cell_80 (by decide) ?_
            refine yi_ast (pc := 84) (k := 38) hK rfl rfl (by decide) (by decide) (by first | assumption | exact vp_in_c (by decide)) dX8_cell_84 ?_
            refine j_iconst (pc := 85) (v := 1) hK dX8_cell_85 (by decide) ?_
            exact j_iret (pc := 86) hK hQ (nle rfl) (nle rfl) dX8_cell_86 (fun h w => ⟨_, rfl, _, _, by clear hK hQ; unfold oCell; grind, w⟩)
        · refine j_iload_n (pc := 63) hK dX8_cell_63 rfl ?_
          refine j_i2b (pc := 64) hK dX8_cell_64 ?_
          refine j_goto (pc := 65) (tgt := 84) hK dX8_cell_65 (by decide) ?_
          refine yi_ast (pc := 84) (k := 38) hK rfl rfl (by decide) (by decide) (by first | assumption | exact vp_in_c (by decide)) dX8_cell_84 ?_
          refine j_iconst (pc := 85) (v := 1) hK dX8_cell_85 (by decide) ?_
          exact j_iret (pc := 86) hK hQ (nle rfl) (nle rfl) dX8_cell_86 (fun h w => ⟨_, rfl, _, _, by clear hK hQ; unfold oCell; grind, w⟩)
      · refine j_bipush (pc := 41) (v := (-12)) hK dX8_cell_41 (by decide) ?_
        exact j_iret (pc := 43) hK hQ (nle rfl) (nle rfl) dX8_cell_43 (fun h w => ⟨_, rfl, _, _, by clear hK hQ; unfold oCell; grind, w⟩)
    · refine j_bipush (pc := 22) (v := (-11)) hK dX8_cell_22 (by decide) ?_
      exact j_iret (pc := 24) hK hQ (nle rfl) (nle rfl) dX8_cell_24 (fun h w => ⟨_, rfl, _, _, by clear hK hQ; unfold oCell; grind, w⟩)
  · refine j_bipush (pc := 9) (v := (-2)) hK dX8_cell_9 (by decide) ?_
    exact j_iret (pc := 11) hK hQ (nle rfl) (nle rfl) dX8_cell_11 (fun h w => ⟨_, rfl, _, _, by clear hK hQ; unfold oCell; grind, w⟩)
theorem c_Ytaken (b k : Int32) (h0 : 0 ≤ f 0) (h7 : f 0 ≤ 7) (hk : ∀ b, Bo f b → 0 ≤ g 1 b ∧ g 1 b ≤ 5) : Ct Γ A yX8_taken wX8_taken 3 0 0 [.ref (L 40), .int b, .int k] (YI Γ L f g T) (RI fun r h => r = oTaken f g b k ∧ YI Γ L f g T h) := by
  refine Ct.of (cc := cX8_taken) (nL := 4) (ret := (some .int)) (ls := [some (.ref (L 40)), some (.int b), some (.int k), none]) rfl rfl rfl (nle rfl) ?_
  intro K hK hQ
  refine j_iload_n (pc := 0) hK dX8_taken_0 rfl ?_
  refine j_iconst (pc := 1) (v := 0) hK dX8_taken_1 (by decide) ?_
  refine j_iconst (pc := 2) (v := 5) hK dX8_taken_2 (by decide) ?_
  refine j_callS (pc := 3) hK hQ (c_Ywithin _ _ _) cal_X8_within q1167 dX8_taken_3 rfl rfl (nle rfl) (nle rfl) (nle rfl) (nle rfl) (kr_i fun r3 => ?_) kx_i
  refine J.pre fun e3 => ?_
  subst e3
  refine j_if_ne_b (pc := 6) (tgt := 12) hK dX8_taken_6 (by decide) (fun c6 => ?_) (fun c6 => ?_)
  · refine j_aload_n (pc := 12) hK dX8_taken_12 rfl ?_
    refine j_iload_n (pc := 13) hK dX8_taken_13 rfl ?_
    refine j_callV (pc := 14) hK hQ (c_YisBoat _) cal_X8_isBoat yi_isC q1370 dX8_taken_14 rfl rfl (nle rfl) (nle rfl) (nle rfl) (nle rfl) (kr_i fun r14 => ?_) kx_i
    refine J.pre fun e14 => ?_
    subst e14
    refine j_if_ne_b (pc := 17) (tgt := 23) hK dX8_taken_17 (by decide) (fun c17 => ?_) (fun c17 => ?_)
    · have hb := bo_in c17 h0 h7
      have hkk := hk b ⟨c17.1, by clear hK hQ; grind⟩
      have hc : g 1 b = 0 ∨ g 1 b = 1 ∨ g 1 b = 2 ∨ g 1 b = 3 ∨ g 1 b = 4 ∨ g 1 b = 5 := by clear hK hQ; grind
      refine j_aload_n (pc := 23) hK dX8_taken_23 rfl ?_
      refine yi_getR (pc := 24) (k := 1) hK (by decide) rfl q1241 rfl dX8_taken_24 ?_
      refine j_iload_n (pc := 27) hK dX8_taken_27 rfl ?_
      refine yi_ald (pc := 28) (k := 1) hK rfl rfl (by first | assumption | exact vp_in_c (by decide)) dX8_taken_28 ?_
      refine j_ist3 (pc := 29) hK dX8_taken_29 (by decide) rfl ?_
      rcases hc with e | e | e | e | e | e <;> rw [e]
      · skip
        refine j_iload_n (pc := 30) hK dX8_taken_30 rfl ?_
        refine j_iload_n (pc := 31) hK dX8_taken_31 rfl ?_
        refine j_icmp_eq (pc := 32) (tgt := 62) hK dX8_taken_32 (by decide) (fun c32 => ?_) (fun c32 => ?_)
        · refine j_iload_n (pc := 62) hK dX8_taken_62 rfl ?_
          refine j_iload_n (pc := 63) hK dX8_taken_63 rfl ?_
          refine j_icmp_ne (pc := 64) (tgt := 76) hK dX8_taken_64 (by decide) (fun c64 => ?_) (fun c64 => ?_)
          · refine j_bipush (pc := 76) (v := (-13)) hK dX8_taken_76 (by decide) ?_
            exact j_iret (pc := 78) hK hQ (nle rfl) (nle rfl) dX8_taken_78 (fun h w => ⟨_, rfl, by clear hK hQ; unfold oTaken; grind, w⟩)
          · refine j_aload_n (pc := 67) hK dX8_taken_67 rfl ?_
            refine yi_getR (pc := 68) (k := 2) hK (by decide) rfl q1242 rfl dX8_taken_68 ?_
            refine j_iload_n (pc := 71) hK dX8_taken_71 rfl ?_
            refine yi_ald (pc := 72) (k := 2) hK rfl rfl (by first | assumption | exact vp_in_c (by decide)) dX8_taken_72 ?_
            refine j_goto (pc := 73) (tgt := 78) hK dX8_taken_73 (by decide) ?_
            exact j_iret (pc := 78) hK hQ (nle rfl) (nle rfl) dX8_taken_78 (fun h w => ⟨_, rfl, by clear hK hQ; unfold oTaken; grind, w⟩)
        · refine j_iload_n (pc := 35) hK dX8_taken_35 rfl ?_
          refine j_if_le (pc := 36) (tgt := 62) hK dX8_taken_36 (by decide) (fun c36 => ?_) (fun c36 => absurd (by decide) c36)
          refine j_iload_n (pc := 62) hK dX8_taken_62 rfl ?_
          refine j_iload_n (pc := 63) hK dX8_taken_63 rfl ?_
          refine j_icmp_ne (pc := 64) (tgt := 76) hK dX8_taken_64 (by decide) (fun c64 => ?_) (fun c64 => ?_)
          · refine j_bipush (pc := 76) (v := (-13)) hK dX8_taken_76 (by decide) ?_
            exact j_iret (pc := 78) hK hQ (nle rfl) (nle rfl) dX8_taken_78 (fun h w => ⟨_, rfl, by clear hK hQ; unfold oTaken; grind, w⟩)
          · refine j_aload_n (pc := 67) hK dX8_taken_67 rfl ?_
            refine yi_getR (pc := 68) (k := 2) hK (by decide) rfl q1242 rfl dX8_taken_68 ?_
            refine j_iload_n (pc := 71) hK dX8_taken_71 rfl ?_
            refine yi_ald (pc := 72) (k := 2) hK rfl rfl (by first | assumption | exact vp_in_c (by decide)) dX8_taken_72 ?_
            refine j_goto (pc := 73) (tgt := 78) hK dX8_taken_73 (by decide) ?_
            exact j_iret (pc := 78) hK hQ (nle rfl) (nle rfl) dX8_taken_78 (fun h w => ⟨_, rfl, by clear hK hQ; unfold oTaken; grind, w⟩)
      · skip
        refine j_iload_n (pc := 30) hK dX8_taken_30 rfl ?_
        refine j_iload_n (pc := 31) hK dX8_taken_31 rfl ?_
        refine j_icmp_eq (pc := 32) (tgt := 62) hK dX8_taken_32 (by decide) (fun c32 => ?_) (fun c32 => ?_)
        · refine j_iload_n (pc := 62) hK dX8_taken_62 rfl ?_
          refine j_iload_n (pc := 63) hK dX8_taken_63 rfl ?_
          refine j_icmp_ne (pc := 64) (tgt := 76) hK dX8_taken_64 (by decide) (fun c64 => ?_) (fun c64 => ?_)
          · refine j_bipush (pc := 76) (v := (-13)) hK dX8_taken_76 (by decide) ?_
            exact j_iret (pc := 78) hK hQ (nle rfl) (nle rfl) dX8_taken_78 (fun h w => ⟨_, rfl, by clear hK hQ; unfold oTaken; grind, w⟩)
          · refine j_aload_n (pc := 67) hK dX8_taken_67 rfl ?_
            refine yi_getR (pc := 68) (k := 2) hK (by decide) rfl q1242 rfl dX8_taken_68 ?_
            refine j_iload_n (pc := 71) hK dX8_taken_71 rfl ?_
            refine yi_ald (pc := 72) (k := 2) hK rfl rfl (by first | assumption | exact vp_in_c (by decide)) dX8_taken_72 ?_
            refine j_goto (pc := 73) (tgt := 78) hK dX8_taken_73 (by decide) ?_
            exact j_iret (pc := 78) hK hQ (nle rfl) (nle rfl) dX8_taken_78 (fun h w => ⟨_, rfl, by clear hK hQ; unfold oTaken; grind, w⟩)
        · refine j_iload_n (pc := 35) hK dX8_taken_35 rfl ?_
          refine j_if_le (pc := 36) (tgt := 62) hK dX8_taken_36 (by decide) (fun c36 => absurd c36 (by decide)) (fun c36 => ?_)
          refine j_iload_n (pc := 39) hK dX8_taken_39 rfl ?_
          refine j_iconst (pc := 40) (v := 3) hK dX8_taken_40 (by decide) ?_
          refine j_icmp_ne (pc := 41) (tgt := 48) hK dX8_taken_41 (by decide) (fun c41 => ?_) (fun c41 => absurd c41 (by decide))
          refine j_iload_n (pc := 48) hK dX8_taken_48 rfl ?_
          refine j_iconst (pc := 49) (v := 4) hK dX8_taken_49 (by decide) ?_
          refine j_icmp_ne (pc := 50) (tgt := 57) hK dX8_taken_50 (by decide) (fun c50 => ?_) (fun c50 => absurd c50 (by decide))
          refine j_iconst (pc := 57) (v := 0) hK dX8_taken_57 (by decide) ?_
          refine j_ist3 (pc := 58) hK dX8_taken_58 (by decide) rfl ?_
          refine j_goto (pc := 59) (tgt := 30) hK dX8_taken_59 (by decide) ?_
          refine j_iload_n (pc := 30) hK dX8_taken_30 rfl ?_
          refine j_iload_n (pc := 31) hK dX8_taken_31 rfl ?_
          refine j_icmp_eq (pc := 32) (tgt := 62) hK dX8_taken_32 (by decide) (fun c32 => ?_) (fun c32 => ?_)
          · refine j_iload_n (pc := 62) hK dX8_taken_62 rfl ?_
            refine j_iload_n (pc := 63) hK dX8_taken_63 rfl ?_
            refine j_icmp_ne (pc := 64) (tgt := 76) hK dX8_taken_64 (by decide) (fun c64 => ?_) (fun c64 => ?_)
            · refine j_bipush (pc := 76) (v := (-13)) hK dX8_taken_76 (by decide) ?_
              exact j_iret (pc := 78) hK hQ (nle rfl) (nle rfl) dX8_taken_78 (fun h w => ⟨_, rfl, by clear hK hQ; unfold oTaken; grind, w⟩)
            · refine j_aload_n (pc := 67) hK dX8_taken_67 rfl ?_
              refine yi_getR (pc := 68) (k := 2) hK (by decide) rfl q1242 rfl dX8_taken_68 ?_
              refine j_iload_n (pc := 71) hK dX8_taken_71 rfl ?_
              refine yi_ald (pc := 72) (k := 2) hK rfl rfl (by first | assumption | exact vp_in_c (by decide)) dX8_taken_72 ?_
              refine j_goto (pc := 73) (tgt := 78) hK dX8_taken_73 (by decide) ?_
              exact j_iret (pc := 78) hK hQ (nle rfl) (nle rfl) dX8_taken_78 (fun h w => ⟨_, rfl, by clear hK hQ; unfold oTaken; grind, w⟩)
          · refine j_iload_n (pc := 35) hK dX8_taken_35 rfl ?_
            refine j_if_le (pc := 36) (tgt := 62) hK dX8_taken_36 (by decide) (fun c36 => ?_) (fun c36 => absurd (by decide) c36)
            refine j_iload_n (pc := 62) hK dX8_taken_62 rfl ?_
            refine j_iload_n (pc := 63) hK dX8_taken_63 rfl ?_
            refine j_icmp_ne (pc := 64) (tgt := 76) hK dX8_taken_64 (by decide) (fun c64 => ?_) (fun c64 => ?_)
            · refine j_bipush (pc := 76) (v := (-13)) hK dX8_taken_76 (by decide) ?_
              exact j_iret (pc := 78) hK hQ (nle rfl) (nle rfl) dX8_taken_78 (fun h w => ⟨_, rfl, by clear hK hQ; unfold oTaken; grind, w⟩)
            · refine j_aload_n (pc := 67) hK dX8_taken_67 rfl ?_
              refine yi_getR (pc := 68) (k := 2) hK (by decide) rfl q1242 rfl dX8_taken_68 ?_
              refine j_iload_n (pc := 71) hK dX8_taken_71 rfl ?_
              refine yi_ald (pc := 72) (k := 2) hK rfl rfl (by first | assumption | exact vp_in_c (by decide)) dX8_taken_72 ?_
              refine j_goto (pc := 73) (tgt := 78) hK dX8_taken_73 (by decide) ?_
              exact j_iret (pc := 78) hK hQ (nle rfl) (nle rfl) dX8_taken_78 (fun h w => ⟨_, rfl, by clear hK hQ; unfold oTaken; grind, w⟩)
      · skip
        refine j_iload_n (pc := 30) hK dX8_taken_30 rfl ?_
        refine j_iload_n (pc := 31) hK dX8_taken_31 rfl ?_
        refine j_icmp_eq (pc := 32) (tgt := 62) hK dX8_taken_32 (by decide) (fun c32 => ?_) (fun c32 => ?_)
        · refine j_iload_n (pc := 62) hK dX8_taken_62 rfl ?_
          refine j_iload_n (pc := 63) hK dX8_taken_63 rfl ?_
          refine j_icmp_ne (pc := 64) (tgt := 76) hK dX8_taken_64 (by decide) (fun c64 => ?_) (fun c64 => ?_)
          · refine j_bipush (pc := 76) (v := (-13)) hK dX8_taken_76 (by decide) ?_
            exact j_iret (pc := 78) hK hQ (nle rfl) (nle rfl) dX8_taken_78 (fun h w => ⟨_, rfl, by clear hK hQ; unfold oTaken; grind, w⟩)
          · refine j_aload_n (pc := 67) hK dX8_taken_67 rfl ?_
            refine yi_getR (pc := 68) (k := 2) hK (by decide) rfl q1242 rfl dX8_taken_68 ?_
            refine j_iload_n (pc := 71) hK dX8_taken_71 rfl ?_
            refine yi_ald (pc := 72) (k := 2) hK rfl rfl (by first | assumption | exact vp_in_c (by decide)) dX8_taken_72 ?_
            refine j_goto (pc := 73) (tgt := 78) hK dX8_taken_73 (by decide) ?_
            exact j_iret (pc := 78) hK hQ (nle rfl) (nle rfl) dX8_taken_78 (fun h w => ⟨_, rfl, by clear hK hQ; unfold oTaken; grind, w⟩)
        · refine j_iload_n (pc := 35) hK dX8_taken_35 rfl ?_
          refine j_if_le (pc := 36) (tgt := 62) hK dX8_taken_36 (by decide) (fun c36 => absurd c36 (by decide)) (fun c36 => ?_)
          refine j_iload_n (pc := 39) hK dX8_taken_39 rfl ?_
          refine j_iconst (pc := 40) (v := 3) hK dX8_taken_40 (by decide) ?_
          refine j_icmp_ne (pc := 41) (tgt := 48) hK dX8_taken_41 (by decide) (fun c41 => ?_) (fun c41 => absurd c41 (by decide))
          refine j_iload_n (pc := 48) hK dX8_taken_48 rfl ?_
          refine j_iconst (pc := 49) (v := 4) hK dX8_taken_49 (by decide) ?_
          refine j_icmp_ne (pc := 50) (tgt := 57) hK dX8_taken_50 (by decide) (fun c50 => ?_) (fun c50 => absurd c50 (by decide))
          refine j_iconst (pc := 57) (v := 0) hK dX8_taken_57 (by decide) ?_
          refine j_ist3 (pc := 58) hK dX8_taken_58 (by decide) rfl ?_
          refine j_goto (pc := 59) (tgt := 30) hK dX8_taken_59 (by decide) ?_
          refine j_iload_n (pc := 30) hK dX8_taken_30 rfl ?_
          refine j_iload_n (pc := 31) hK dX8_taken_31 rfl ?_
          refine j_icmp_eq (pc := 32) (tgt := 62) hK dX8_taken_32 (by decide) (fun c32 => ?_) (fun c32 => ?_)
          · refine j_iload_n (pc := 62) hK dX8_taken_62 rfl ?_
            refine j_iload_n (pc := 63) hK dX8_taken_63 rfl ?_
            refine j_icmp_ne (pc := 64) (tgt := 76) hK dX8_taken_64 (by decide) (fun c64 => ?_) (fun c64 => ?_)
            · refine j_bipush (pc := 76) (v := (-13)) hK dX8_taken_76 (by decide) ?_
              exact j_iret (pc := 78) hK hQ (nle rfl) (nle rfl) dX8_taken_78 (fun h w => ⟨_, rfl, by clear hK hQ; unfold oTaken; grind, w⟩)
            · refine j_aload_n (pc := 67) hK dX8_taken_67 rfl ?_
              refine yi_getR (pc := 68) (k := 2) hK (by decide) rfl q1242 rfl dX8_taken_68 ?_
              refine j_iload_n (pc := 71) hK dX8_taken_71 rfl ?_
              refine yi_ald (pc := 72) (k := 2) hK rfl rfl (by first | assumption | exact vp_in_c (by decide)) dX8_taken_72 ?_
              refine j_goto (pc := 73) (tgt := 78) hK dX8_taken_73 (by decide) ?_
              exact j_iret (pc := 78) hK hQ (nle rfl) (nle rfl) dX8_taken_78 (fun h w => ⟨_, rfl, by clear hK hQ; unfold oTaken; grind, w⟩)
          · refine j_iload_n (pc := 35) hK dX8_taken_35 rfl ?_
            refine j_if_le (pc := 36) (tgt := 62) hK dX8_taken_36 (by decide) (fun c36 => ?_) (fun c36 => absurd (by decide) c36)
            refine j_iload_n (pc := 62) hK dX8_taken_62 rfl ?_
            refine j_iload_n (pc := 63) hK dX8_taken_63 rfl ?_
            refine j_icmp_ne (pc := 64) (tgt := 76) hK dX8_taken_64 (by decide) (fun c64 => ?_) (fun c64 => ?_)
            · refine j_bipush (pc := 76) (v := (-13)) hK dX8_taken_76 (by decide) ?_
              exact j_iret (pc := 78) hK hQ (nle rfl) (nle rfl) dX8_taken_78 (fun h w => ⟨_, rfl, by clear hK hQ; unfold oTaken; grind, w⟩)
            · refine j_aload_n (pc := 67) hK dX8_taken_67 rfl ?_
              refine yi_getR (pc := 68) (k := 2) hK (by decide) rfl q1242 rfl dX8_taken_68 ?_
              refine j_iload_n (pc := 71) hK dX8_taken_71 rfl ?_
              refine yi_ald (pc := 72) (k := 2) hK rfl rfl (by first | assumption | exact vp_in_c (by decide)) dX8_taken_72 ?_
              refine j_goto (pc := 73) (tgt := 78) hK dX8_taken_73 (by decide) ?_
              exact j_iret (pc := 78) hK hQ (nle rfl) (nle rfl) dX8_taken_78 (fun h w => ⟨_, rfl, by clear hK hQ; unfold oTaken; grind, w⟩)
      · skip
        refine j_iload_n (pc := 30) hK dX8_taken_30 rfl ?_
        refine j_iload_n (pc := 31) hK dX8_taken_31 rfl ?_
        refine j_icmp_eq (pc := 32) (tgt := 62) hK dX8_taken_32 (by decide) (fun c32 => ?_) (fun c32 => ?_)
        · refine j_iload_n (pc := 62) hK dX8_taken_62 rfl ?_
          refine j_iload_n (pc := 63) hK dX8_taken_63 rfl ?_
          refine j_icmp_ne (pc := 64) (tgt := 76) hK dX8_taken_64 (by decide) (fun c64 => ?_) (fun c64 => ?_)
          · refine j_bipush (pc := 76) (v := (-13)) hK dX8_taken_76 (by decide) ?_
            exact j_iret (pc := 78) hK hQ (nle rfl) (nle rfl) dX8_taken_78 (fun h w => ⟨_, rfl, by clear hK hQ; unfold oTaken; grind, w⟩)
          · refine j_aload_n (pc := 67) hK dX8_taken_67 rfl ?_
            refine yi_getR (pc := 68) (k := 2) hK (by decide) rfl q1242 rfl dX8_taken_68 ?_
            refine j_iload_n (pc := 71) hK dX8_taken_71 rfl ?_
            refine yi_ald (pc := 72) (k := 2) hK rfl rfl (by first | assumption | exact vp_in_c (by decide)) dX8_taken_72 ?_
            refine j_goto (pc := 73) (tgt := 78) hK dX8_taken_73 (by decide) ?_
            exact j_iret (pc := 78) hK hQ (nle rfl) (nle rfl) dX8_taken_78 (fun h w => ⟨_, rfl, by clear hK hQ; unfold oTaken; grind, w⟩)
        · refine j_iload_n (pc := 35) hK dX8_taken_35 rfl ?_
          refine j_if_le (pc := 36) (tgt := 62) hK dX8_taken_36 (by decide) (fun c36 => absurd c36 (by decide)) (fun c36 => ?_)
          refine j_iload_n (pc := 39) hK dX8_taken_39 rfl ?_
          refine j_iconst (pc := 40) (v := 3) hK dX8_taken_40 (by decide) ?_
          refine j_icmp_ne (pc := 41) (tgt := 48) hK dX8_taken_41 (by decide) (fun c41 => absurd (by decide) c41) (fun c41 => ?_)
          refine j_iconst (pc := 44) (v := 1) hK dX8_taken_44 (by decide) ?_
          refine j_goto (pc := 45) (tgt := 58) hK dX8_taken_45 (by decide) ?_
          refine j_ist3 (pc := 58) hK dX8_taken_58 (by decide) rfl ?_
          refine j_goto (pc := 59) (tgt := 30) hK dX8_taken_59 (by decide) ?_
          refine j_iload_n (pc := 30) hK dX8_taken_30 rfl ?_
          refine j_iload_n (pc := 31) hK dX8_taken_31 rfl ?_
          refine j_icmp_eq (pc := 32) (tgt := 62) hK dX8_taken_32 (by decide) (fun c32 => ?_) (fun c32 => ?_)
          · refine j_iload_n (pc := 62) hK dX8_taken_62 rfl ?_
            refine j_iload_n (pc := 63) hK dX8_taken_63 rfl ?_
            refine j_icmp_ne (pc := 64) (tgt := 76) hK dX8_taken_64 (by decide) (fun c64 => ?_) (fun c64 => ?_)
            · refine j_bipush (pc := 76) (v := (-13)) hK dX8_taken_76 (by decide) ?_
              exact j_iret (pc := 78) hK hQ (nle rfl) (nle rfl) dX8_taken_78 (fun h w => ⟨_, rfl, by clear hK hQ; unfold oTaken; grind, w⟩)
            · refine j_aload_n (pc := 67) hK dX8_taken_67 rfl ?_
              refine yi_getR (pc := 68) (k := 2) hK (by decide) rfl q1242 rfl dX8_taken_68 ?_
              refine j_iload_n (pc := 71) hK dX8_taken_71 rfl ?_
              refine yi_ald (pc := 72) (k := 2) hK rfl rfl (by first | assumption | exact vp_in_c (by decide)) dX8_taken_72 ?_
              refine j_goto (pc := 73) (tgt := 78) hK dX8_taken_73 (by decide) ?_
              exact j_iret (pc := 78) hK hQ (nle rfl) (nle rfl) dX8_taken_78 (fun h w => ⟨_, rfl, by clear hK hQ; unfold oTaken; grind, w⟩)
          · refine j_iload_n (pc := 35) hK dX8_taken_35 rfl ?_
            refine j_if_le (pc := 36) (tgt := 62) hK dX8_taken_36 (by decide) (fun c36 => absurd c36 (by decide)) (fun c36 => ?_)
            refine j_iload_n (pc := 39) hK dX8_taken_39 rfl ?_
            refine j_iconst (pc := 40) (v := 3) hK dX8_taken_40 (by decide) ?_
            refine j_icmp_ne (pc := 41) (tgt := 48) hK dX8_taken_41 (by decide) (fun c41 => ?_) (fun c41 => absurd c41 (by decide))
            refine j_iload_n (pc := 48) hK dX8_taken_48 rfl ?_
            refine j_iconst (pc := 49) (v := 4) hK dX8_taken_49 (by decide) ?_
            refine j_icmp_ne (pc := 50) (tgt := 57) hK dX8_taken_50 (by decide) (fun c50 => ?_) (fun c50 => absurd c50 (by decide))
            refine j_iconst (pc := 57) (v := 0) hK dX8_taken_57 (by decide) ?_
            refine j_ist3 (pc := 58) hK dX8_taken_58 (by decide) rfl ?_
            refine j_goto (pc := 59) (tgt := 30) hK dX8_taken_59 (by decide) ?_
            refine j_iload_n (pc := 30) hK dX8_taken_30 rfl ?_
            refine j_iload_n (pc := 31) hK dX8_taken_31 rfl ?_
            refine j_icmp_eq (pc := 32) (tgt := 62) hK dX8_taken_32 (by decide) (fun c32 => ?_) (fun c32 => ?_)
            · refine j_iload_n (pc := 62) hK dX8_taken_62 rfl ?_
              refine j_iload_n (pc := 63) hK dX8_taken_63 rfl ?_
              refine j_icmp_ne (pc := 64) (tgt := 76) hK dX8_taken_64 (by decide) (fun c64 => ?_) (fun c64 => ?_)
              · refine j_bipush (pc := 76) (v := (-13)) hK dX8_taken_76 (by decide) ?_
                exact j_iret (pc := 78) hK hQ (nle rfl) (nle rfl) dX8_taken_78 (fun h w => ⟨_, rfl, by clear hK hQ; unfold oTaken; grind, w⟩)
              · refine j_aload_n (pc := 67) hK dX8_taken_67 rfl ?_
                refine yi_getR (pc := 68) (k := 2) hK (by decide) rfl q1242 rfl dX8_taken_68 ?_
                refine j_iload_n (pc := 71) hK dX8_taken_71 rfl ?_
                refine yi_ald (pc := 72) (k := 2) hK rfl rfl (by first | assumption | exact vp_in_c (by decide)) dX8_taken_72 ?_
                refine j_goto (pc := 73) (tgt := 78) hK dX8_taken_73 (by decide) ?_
                exact j_iret (pc := 78) hK hQ (nle rfl) (nle rfl) dX8_taken_78 (fun h w => ⟨_, rfl, by clear hK hQ; unfold oTaken; grind, w⟩)
            · refine j_iload_n (pc := 35) hK dX8_taken_35 rfl ?_
              refine j_if_le (pc := 36) (tgt := 62) hK dX8_taken_36 (by decide) (fun c36 => ?_) (fun c36 => absurd (by decide) c36)
              refine j_iload_n (pc := 62) hK dX8_taken_62 rfl ?_
              refine j_iload_n (pc := 63) hK dX8_taken_63 rfl ?_
              refine j_icmp_ne (pc := 64) (tgt := 76) hK dX8_taken_64 (by decide) (fun c64 => ?_) (fun c64 => ?_)
              · refine j_bipush (pc := 76) (v := (-13)) hK dX8_taken_76 (by decide) ?_
                exact j_iret (pc := 78) hK hQ (nle rfl) (nle rfl) dX8_taken_78 (fun h w => ⟨_, rfl, by clear hK hQ; unfold oTaken; grind, w⟩)
              · refine j_aload_n (pc := 67) hK dX8_taken_67 rfl ?_
                refine yi_getR (pc := 68) (k := 2) hK (by decide) rfl q1242 rfl dX8_taken_68 ?_
                refine j_iload_n (pc := 71) hK dX8_taken_71 rfl ?_
                refine yi_ald (pc := 72) (k := 2) hK rfl rfl (by first | assumption | exact vp_in_c (by decide)) dX8_taken_72 ?_
                refine j_goto (pc := 73) (tgt := 78) hK dX8_taken_73 (by decide) ?_
                exact j_iret (pc := 78) hK hQ (nle rfl) (nle rfl) dX8_taken_78 (fun h w => ⟨_, rfl, by clear hK hQ; unfold oTaken; grind, w⟩)
      · skip
        refine j_iload_n (pc := 30) hK dX8_taken_30 rfl ?_
        refine j_iload_n (pc := 31) hK dX8_taken_31 rfl ?_
        refine j_icmp_eq (pc := 32) (tgt := 62) hK dX8_taken_32 (by decide) (fun c32 => ?_) (fun c32 => ?_)
        · refine j_iload_n (pc := 62) hK dX8_taken_62 rfl ?_
          refine j_iload_n (pc := 63) hK dX8_taken_63 rfl ?_
          refine j_icmp_ne (pc := 64) (tgt := 76) hK dX8_taken_64 (by decide) (fun c64 => ?_) (fun c64 => ?_)
          · refine j_bipush (pc := 76) (v := (-13)) hK dX8_taken_76 (by decide) ?_
            exact j_iret (pc := 78) hK hQ (nle rfl) (nle rfl) dX8_taken_78 (fun h w => ⟨_, rfl, by clear hK hQ; unfold oTaken; grind, w⟩)
          · refine j_aload_n (pc := 67) hK dX8_taken_67 rfl ?_
            refine yi_getR (pc := 68) (k := 2) hK (by decide) rfl q1242 rfl dX8_taken_68 ?_
            refine j_iload_n (pc := 71) hK dX8_taken_71 rfl ?_
            refine yi_ald (pc := 72) (k := 2) hK rfl rfl (by first | assumption | exact vp_in_c (by decide)) dX8_taken_72 ?_
            refine j_goto (pc := 73) (tgt := 78) hK dX8_taken_73 (by decide) ?_
            exact j_iret (pc := 78) hK hQ (nle rfl) (nle rfl) dX8_taken_78 (fun h w => ⟨_, rfl, by clear hK hQ; unfold oTaken; grind, w⟩)
        · refine j_iload_n (pc := 35) hK dX8_taken_35 rfl ?_
          refine j_if_le (pc := 36) (tgt := 62) hK dX8_taken_36 (by decide) (fun c36 => absurd c36 (by decide)) (fun c36 => ?_)
          refine j_iload_n (pc := 39) hK dX8_taken_39 rfl ?_
          refine j_iconst (pc := 40) (v := 3) hK dX8_taken_40 (by decide) ?_
          refine j_icmp_ne (pc := 41) (tgt := 48) hK dX8_taken_41 (by decide) (fun c41 => ?_) (fun c41 => absurd c41 (by decide))
          refine j_iload_n (pc := 48) hK dX8_taken_48 rfl ?_
          refine j_iconst (pc := 49) (v := 4) hK dX8_taken_49 (by decide) ?_
          refine j_icmp_ne (pc := 50) (tgt := 57) hK dX8_taken_50 (by decide) (fun c50 => absurd (by decide) c50) (fun c50 => ?_)
          refine j_iconst (pc := 53) (v := 2) hK dX8_taken_53 (by decide) ?_
          refine j_goto (pc := 54) (tgt := 58) hK dX8_taken_54 (by decide) ?_
          refine j_ist3 (pc := 58) hK dX8_taken_58 (by decide) rfl ?_
          refine j_goto (pc := 59) (tgt := 30) hK dX8_taken_59 (by decide) ?_
          refine j_iload_n (pc := 30) hK dX8_taken_30 rfl ?_
          refine j_iload_n (pc := 31) hK dX8_taken_31 rfl ?_
          refine j_icmp_eq (pc := 32) (tgt := 62) hK dX8_taken_32 (by decide) (fun c32 => ?_) (fun c32 => ?_)
          · refine j_iload_n (pc := 62) hK dX8_taken_62 rfl ?_
            refine j_iload_n (pc := 63) hK dX8_taken_63 rfl ?_
            refine j_icmp_ne (pc := 64) (tgt := 76) hK dX8_taken_64 (by decide) (fun c64 => ?_) (fun c64 => ?_)
            · refine j_bipush (pc := 76) (v := (-13)) hK dX8_taken_76 (by decide) ?_
              exact j_iret (pc := 78) hK hQ (nle rfl) (nle rfl) dX8_taken_78 (fun h w => ⟨_, rfl, by clear hK hQ; unfold oTaken; grind, w⟩)
            · refine j_aload_n (pc := 67) hK dX8_taken_67 rfl ?_
              refine yi_getR (pc := 68) (k := 2) hK (by decide) rfl q1242 rfl dX8_taken_68 ?_
              refine j_iload_n (pc := 71) hK dX8_taken_71 rfl ?_
              refine yi_ald (pc := 72) (k := 2) hK rfl rfl (by first | assumption | exact vp_in_c (by decide)) dX8_taken_72 ?_
              refine j_goto (pc := 73) (tgt := 78) hK dX8_taken_73 (by decide) ?_
              exact j_iret (pc := 78) hK hQ (nle rfl) (nle rfl) dX8_taken_78 (fun h w => ⟨_, rfl, by clear hK hQ; unfold oTaken; grind, w⟩)
          · refine j_iload_n (pc := 35) hK dX8_taken_35 rfl ?_
            refine j_if_le (pc := 36) (tgt := 62) hK dX8_taken_36 (by decide) (fun c36 => absurd c36 (by decide)) (fun c36 => ?_)
            refine j_iload_n (pc := 39) hK dX8_taken_39 rfl ?_
            refine j_iconst (pc := 40) (v := 3) hK dX8_taken_40 (by decide) ?_
            refine j_icmp_ne (pc := 41) (tgt := 48) hK dX8_taken_41 (by decide) (fun c41 => ?_) (fun c41 => absurd c41 (by decide))
            refine j_iload_n (pc := 48) hK dX8_taken_48 rfl ?_
            refine j_iconst (pc := 49) (v := 4) hK dX8_taken_49 (by decide) ?_
            refine j_icmp_ne (pc := 50) (tgt := 57) hK dX8_taken_50 (by decide) (fun c50 => ?_) (fun c50 => absurd c50 (by decide))
            refine j_iconst (pc := 57) (v := 0) hK dX8_taken_57 (by decide) ?_
            refine j_ist3 (pc := 58) hK dX8_taken_58 (by decide) rfl ?_
            refine j_goto (pc := 59) (tgt := 30) hK dX8_taken_59 (by decide) ?_
            refine j_iload_n (pc := 30) hK dX8_taken_30 rfl ?_
            refine j_iload_n (pc := 31) hK dX8_taken_31 rfl ?_
            refine j_icmp_eq (pc := 32) (tgt := 62) hK dX8_taken_32 (by decide) (fun c32 => ?_) (fun c32 => ?_)
            · refine j_iload_n (pc := 62) hK dX8_taken_62 rfl ?_
              refine j_iload_n (pc := 63) hK dX8_taken_63 rfl ?_
              refine j_icmp_ne (pc := 64) (tgt := 76) hK dX8_taken_64 (by decide) (fun c64 => ?_) (fun c64 => ?_)
              · refine j_bipush (pc := 76) (v := (-13)) hK dX8_taken_76 (by decide) ?_
                exact j_iret (pc := 78) hK hQ (nle rfl) (nle rfl) dX8_taken_78 (fun h w => ⟨_, rfl, by clear hK hQ; unfold oTaken; grind, w⟩)
              · refine j_aload_n (pc := 67) hK dX8_taken_67 rfl ?_
                refine yi_getR (pc := 68) (k := 2) hK (by decide) rfl q1242 rfl dX8_taken_68 ?_
                refine j_iload_n (pc := 71) hK dX8_taken_71 rfl ?_
                refine yi_ald (pc := 72) (k := 2) hK rfl rfl (by first | assumption | exact vp_in_c (by decide)) dX8_taken_72 ?_
                refine j_goto (pc := 73) (tgt := 78) hK dX8_taken_73 (by decide) ?_
                exact j_iret (pc := 78) hK hQ (nle rfl) (nle rfl) dX8_taken_78 (fun h w => ⟨_, rfl, by clear hK hQ; unfold oTaken; grind, w⟩)
            · refine j_iload_n (pc := 35) hK dX8_taken_35 rfl ?_
              refine j_if_le (pc := 36) (tgt := 62) hK dX8_taken_36 (by decide) (fun c36 => ?_) (fun c36 => absurd (by decide) c36)
              refine j_iload_n (pc := 62) hK dX8_taken_62 rfl ?_
              refine j_iload_n (pc := 63) hK dX8_taken_63 rfl ?_
              refine j_icmp_ne (pc := 64) (tgt := 76) hK dX8_taken_64 (by decide) (fun c64 => ?_) (fun c64 => ?_)
              · refine j_bipush (pc := 76) (v := (-13)) hK dX8_taken_76 (by decide) ?_
                exact j_iret (pc := 78) hK hQ (nle rfl) (nle rfl) dX8_taken_78 (fun h w => ⟨_, rfl, by clear hK hQ; unfold oTaken; grind, w⟩)
              · refine j_aload_n (pc := 67) hK dX8_taken_67 rfl ?_
                refine yi_getR (pc := 68) (k := 2) hK (by decide) rfl q1242 rfl dX8_taken_68 ?_
                refine j_iload_n (pc := 71) hK dX8_taken_71 rfl ?_
                refine yi_ald (pc := 72) (k := 2) hK rfl rfl (by first | assumption | exact vp_in_c (by decide)) dX8_taken_72 ?_
                refine j_goto (pc := 73) (tgt := 78) hK dX8_taken_73 (by decide) ?_
                exact j_iret (pc := 78) hK hQ (nle rfl) (nle rfl) dX8_taken_78 (fun h w => ⟨_, rfl, by clear hK hQ; unfold oTaken; grind, w⟩)
      · skip
        refine j_iload_n (pc := 30) hK dX8_taken_30 rfl ?_
        refine j_iload_n (pc := 31) hK dX8_taken_31 rfl ?_
        refine j_icmp_eq (pc := 32) (tgt := 62) hK dX8_taken_32 (by decide) (fun c32 => ?_) (fun c32 => ?_)
        · refine j_iload_n (pc := 62) hK dX8_taken_62 rfl ?_
          refine j_iload_n (pc := 63) hK dX8_taken_63 rfl ?_
          refine j_icmp_ne (pc := 64) (tgt := 76) hK dX8_taken_64 (by decide) (fun c64 => ?_) (fun c64 => ?_)
          · refine j_bipush (pc := 76) (v := (-13)) hK dX8_taken_76 (by decide) ?_
            exact j_iret (pc := 78) hK hQ (nle rfl) (nle rfl) dX8_taken_78 (fun h w => ⟨_, rfl, by clear hK hQ; unfold oTaken; grind, w⟩)
          · refine j_aload_n (pc := 67) hK dX8_taken_67 rfl ?_
            refine yi_getR (pc := 68) (k := 2) hK (by decide) rfl q1242 rfl dX8_taken_68 ?_
            refine j_iload_n (pc := 71) hK dX8_taken_71 rfl ?_
            refine yi_ald (pc := 72) (k := 2) hK rfl rfl (by first | assumption | exact vp_in_c (by decide)) dX8_taken_72 ?_
            refine j_goto (pc := 73) (tgt := 78) hK dX8_taken_73 (by decide) ?_
            exact j_iret (pc := 78) hK hQ (nle rfl) (nle rfl) dX8_taken_78 (fun h w => ⟨_, rfl, by clear hK hQ; unfold oTaken; grind, w⟩)
        · refine j_iload_n (pc := 35) hK dX8_taken_35 rfl ?_
          refine j_if_le (pc := 36) (tgt := 62) hK dX8_taken_36 (by decide) (fun c36 => absurd c36 (by decide)) (fun c36 => ?_)
          refine j_iload_n (pc := 39) hK dX8_taken_39 rfl ?_
          refine j_iconst (pc := 40) (v := 3) hK dX8_taken_40 (by decide) ?_
          refine j_icmp_ne (pc := 41) (tgt := 48) hK dX8_taken_41 (by decide) (fun c41 => ?_) (fun c41 => absurd c41 (by decide))
          refine j_iload_n (pc := 48) hK dX8_taken_48 rfl ?_
          refine j_iconst (pc := 49) (v := 4) hK dX8_taken_49 (by decide) ?_
          refine j_icmp_ne (pc := 50) (tgt := 57) hK dX8_taken_50 (by decide) (fun c50 => ?_) (fun c50 => absurd c50 (by decide))
          refine j_iconst (pc := 57) (v := 0) hK dX8_taken_57 (by decide) ?_
          refine j_ist3 (pc := 58) hK dX8_taken_58 (by decide) rfl ?_
          refine j_goto (pc := 59) (tgt := 30) hK dX8_taken_59 (by decide) ?_
          refine j_iload_n (pc := 30) hK dX8_taken_30 rfl ?_
          refine j_iload_n (pc := 31) hK dX8_taken_31 rfl ?_
          refine j_icmp_eq (pc := 32) (tgt := 62) hK dX8_taken_32 (by decide) (fun c32 => ?_) (fun c32 => ?_)
          · refine j_iload_n (pc := 62) hK dX8_taken_62 rfl ?_
            refine j_iload_n (pc := 63) hK dX8_taken_63 rfl ?_
            refine j_icmp_ne (pc := 64) (tgt := 76) hK dX8_taken_64 (by decide) (fun c64 => ?_) (fun c64 => ?_)
            · refine j_bipush (pc := 76) (v := (-13)) hK dX8_taken_76 (by decide) ?_
              exact j_iret (pc := 78) hK hQ (nle rfl) (nle rfl) dX8_taken_78 (fun h w => ⟨_, rfl, by clear hK hQ; unfold oTaken; grind, w⟩)
            · refine j_aload_n (pc := 67) hK dX8_taken_67 rfl ?_
              refine yi_getR (pc := 68) (k := 2) hK (by decide) rfl q1242 rfl dX8_taken_68 ?_
              refine j_iload_n (pc := 71) hK dX8_taken_71 rfl ?_
              refine yi_ald (pc := 72) (k := 2) hK rfl rfl (by first | assumption | exact vp_in_c (by decide)) dX8_taken_72 ?_
              refine j_goto (pc := 73) (tgt := 78) hK dX8_taken_73 (by decide) ?_
              exact j_iret (pc := 78) hK hQ (nle rfl) (nle rfl) dX8_taken_78 (fun h w => ⟨_, rfl, by clear hK hQ; unfold oTaken; grind, w⟩)
          · refine j_iload_n (pc := 35) hK dX8_taken_35 rfl ?_
            refine j_if_le (pc := 36) (tgt := 62) hK dX8_taken_36 (by decide) (fun c36 => ?_) (fun c36 => absurd (by decide) c36)
            refine j_iload_n (pc := 62) hK dX8_taken_62 rfl ?_
            refine j_iload_n (pc := 63) hK dX8_taken_63 rfl ?_
            refine j_icmp_ne (pc := 64) (tgt := 76) hK dX8_taken_64 (by decide) (fun c64 => ?_) (fun c64 => ?_)
            · refine j_bipush (pc := 76) (v := (-13)) hK dX8_taken_76 (by decide) ?_
              exact j_iret (pc := 78) hK hQ (nle rfl) (nle rfl) dX8_taken_78 (fun h w => ⟨_, rfl, by clear hK hQ; unfold oTaken; grind, w⟩)
            · refine j_aload_n (pc := 67) hK dX8_taken_67 rfl ?_
              refine yi_getR (pc := 68) (k := 2) hK (by decide) rfl q1242 rfl dX8_taken_68 ?_
              refine j_iload_n (pc := 71) hK dX8_taken_71 rfl ?_
              refine yi_ald (pc := 72) (k := 2) hK rfl rfl (by first | assumption | exact vp_in_c (by decide)) dX8_taken_72 ?_
              refine j_goto (pc := 73) (tgt := 78) hK dX8_taken_73 (by decide) ?_
              exact j_iret (pc := 78) hK hQ (nle rfl) (nle rfl) dX8_taken_78 (fun h w => ⟨_, rfl, by clear hK hQ; unfold oTaken; grind, w⟩)
    · refine j_bipush (pc := 20) (v := (-11)) hK dX8_taken_20 (by decide) ?_
      exact j_iret (pc := 22) hK hQ (nle rfl) (nle rfl) dX8_taken_22 (fun h w => ⟨_, rfl, by clear hK hQ; unfold oTaken; grind, w⟩)
  · refine j_bipush (pc := 9) (v := (-2)) hK dX8_taken_9 (by decide) ?_
    exact j_iret (pc := 11) hK hQ (nle rfl) (nle rfl) dX8_taken_11 (fun h w => ⟨_, rfl, by clear hK hQ; unfold oTaken; grind, w⟩)
end Y4
