/-! the class: set -/
set_option maxRecDepth 100000
section X60
variable {Γ : Gam} {A : Nat → Prop} {L : Nat → Nat} {f : Nat → Int32} {g : Nat → Int32 → Int32} {T : TX} {P : PH → Prop}
theorem ug_id (k : Nat) (b : Int32) : ug g k b (g k b) = g := by
  funext k' j
  unfold ug
  by_cases h : k' = k ∧ j = b
  · rw [if_pos h, h.1, h.2]
  · rw [if_neg h]
theorem oSet_1 {what b v : Int32} (h8 : 0 ≤ what ∧ what ≤ 8) (h4 : what < 4) (hb : ¬ (0 ≤ b ∧ b ≤ f 0 - 1)) : oSet f g what b v = (-2, f, g) := by
  unfold oSet
  rw [if_neg (fun z => z h8), if_pos ⟨h4, hb⟩]
theorem oSet_2 {what b v lo hi : Int32} (h8 : 0 ≤ what ∧ what ≤ 8) (hb : what < 4 → (0 ≤ b ∧ b ≤ f 0 - 1)) (hlo : setLo what = lo) (hhi : setHi what = hi) (hv : ¬ (lo ≤ v ∧ v ≤ hi)) : oSet f g what b v = (-2, f, g) := by
  unfold oSet
  rw [if_neg (fun z => z h8), if_neg (fun z => z.2 (hb z.1)), hlo, hhi, if_pos hv]
theorem oSet_3 {what b v lo hi : Int32} (h8 : 0 ≤ what ∧ what ≤ 8) (h4 : what < 4) (hb : 0 ≤ b ∧ b ≤ f 0 - 1) (hlo : setLo what = lo) (hhi : setHi what = hi) (hv : lo ≤ v ∧ v ≤ hi) : oSet f g what b v = (g (setA what) b, f, ug g (setA what) b v) := by
  unfold oSet
  rw [if_neg (fun z => z h8), if_neg (fun z => z.2 hb), hlo, hhi, if_neg (fun z => z hv), if_pos h4]
theorem oSet_4 {what b v lo hi : Int32} (h8 : 0 ≤ what ∧ what ≤ 8) (h4 : ¬ what < 4) (hlo : setLo what = lo) (hhi : setHi what = hi) (hv : lo ≤ v ∧ v ≤ hi) : oSet f g what b v = (f (setF what), upd f (setF what) v, g) := by
  unfold oSet
  rw [if_neg (fun z => z h8), if_neg (fun z => h4 z.1), hlo, hhi, if_neg (fun z => z hv), if_neg h4]
theorem c_XsetBoat {what b v : Int32} (hw4 : what = 0 ∨ what = 1 ∨ what = 2 ∨ what = 3) (hV : XV f g T) : Ct Γ A yX0_setBoat wX0_setBoat 3 0 0 [.ref (L 35), .int what, .int b, .int v] (XI Γ L f g T TT) (RI (XO Γ L T (oSet f g what b v))) := by
  have h7 := hV.1.2.1
  refine Ct.of (cc := cX0_setBoat) (nL := 7) (ret := (some .int)) (ls := [some (.ref (L 35)), some (.int what), some (.int b), some (.int v), none, none, none]) rfl rfl rfl (nle rfl) ?_
  intro K hK hQ
  rcases hw4 with rfl | rfl | rfl | rfl
  · have hlo : setLo 0 = 0 := by decide
    have hhi : setHi 0 = 47 := by decide
    refine j_iload_n (pc := 0) hK dX0_setBoat_0 rfl ?_
    refine j_iconst (pc := 1) (v := 2) hK dX0_setBoat_1 (by decide) ?_
    refine j_icmp_ne (pc := 2) (tgt := 9) hK dX0_setBoat_2 (by decide) (fun c2 => ?_) (fun c2 => absurd c2 (by decide))
    refine j_iconst (pc := 9) (v := 0) hK dX0_setBoat_9 (by decide) ?_
    refine j_ist4 (pc := 10) hK dX0_setBoat_10 (by decide) rfl ?_
    refine j_iload_n (pc := 12) hK dX0_setBoat_12 rfl ?_
    refine j_if_ne (pc := 13) (tgt := 21) hK dX0_setBoat_13 (by decide) (fun c13 => absurd (by decide) c13) (fun c13 => ?_)
    refine j_bipush (pc := 16) (v := 47) hK dX0_setBoat_16 (by decide) ?_
    refine j_goto (pc := 18) (tgt := 45) hK dX0_setBoat_18 (by decide) ?_
    refine j_ist5 (pc := 45) hK dX0_setBoat_45 (by decide) rfl ?_
    refine j_aload_n (pc := 47) hK dX0_setBoat_47 rfl ?_
    refine j_iload_n (pc := 48) hK dX0_setBoat_48 rfl ?_
    refine j_callV (pc := 49) hK hQ (c_XisBoat (fun _ w => w) _) cal_X0_isBoat (xi_isC (fun _ w => w)) q186 dX0_setBoat_49 rfl rfl (nle rfl) (nle rfl) (nle rfl) (nle rfl) (kr_i fun r49 => ?_) kx_i
    refine J.pre fun e49 => ?_
    subst e49
    refine j_if_eq_b (pc := 52) (tgt := 69) hK dX0_setBoat_52 (by decide) (fun c52 => ?_) (fun c52 => ?_)
    · refine j_bipush (pc := 69) (v := (-2)) hK dX0_setBoat_69 (by decide) ?_
      exact j_iret (pc := 71) hK hQ (nle rfl) (nle rfl) dX0_setBoat_71 (fun h w => ⟨_, rfl, _, _, by first | exact oSet_1 (by decide) (by decide) c52 | exact oSet_2 (by decide) (fun _ => c52) hlo hhi c66 | exact oSet_3 (by decide) (by decide) c52 hlo hhi c66, w⟩)
    · refine j_iload_n (pc := 55) hK dX0_setBoat_55 rfl ?_
      refine j_i2l (pc := 56) hK dX0_setBoat_56 ?_
      refine j_iload (pc := 57) hK dX0_setBoat_57 rfl ?_
      refine j_i2l (pc := 59) hK dX0_setBoat_59 ?_
      refine j_iload (pc := 60) hK dX0_setBoat_60 rfl ?_
      refine j_i2l (pc := 62) hK dX0_setBoat_62 ?_
      refine j_callS (pc := 63) hK hQ (c_Xin (l := 0) (u := 47) rfl rfl) cal_X0_in q106 dX0_setBoat_63 rfl rfl (nle rfl) (nle rfl) (nle rfl) (nle rfl) (kr_i fun r63 => ?_) kx_i
      refine J.pre fun e63 => ?_
      subst e63
      refine j_if_ne_b (pc := 66) (tgt := 72) hK dX0_setBoat_66 (by decide) (fun c66 => ?_) (fun c66 => ?_)
      · have hb := bo_of c52 hV.1
        have hB := hV.2.1 b hb
        have hB' : InvB (ug g 3 b v) b := hB.up (by right; left; exact ⟨rfl, c66⟩)
        refine j_aload_n (pc := 72) hK dX0_setBoat_72 rfl ?_
        refine j_iload_n (pc := 73) hK dX0_setBoat_73 rfl ?_
        refine j_iload_n (pc := 74) hK dX0_setBoat_74 rfl ?_
        refine j_callV (pc := 75) hK hQ (c_XtoldOf (fun _ w => w) _ hb hB) cal_X0_toldOf (xi_isC (fun _ w => w)) q190 dX0_setBoat_75 rfl rfl (nle rfl) (nle rfl) (nle rfl) (nle rfl) (kr_i fun r75 => ?_) kx_i
        refine J.pre fun e75 => ?_
        subst e75
        refine j_ist6 (pc := 78) hK dX0_setBoat_78 (by decide) rfl ?_
        refine j_aload_n (pc := 80) hK dX0_setBoat_80 rfl ?_
        refine xi_getR (pc := 81) (k := 1) hK (fun _ w => w) (by decide) rfl q749 rfl dX0_setBoat_81 ?_
        refine j_iload_n (pc := 84) hK dX0_setBoat_84 rfl ?_
        refine j_iload_n (pc := 85) hK dX0_setBoat_85 rfl ?_
        refine j_if_ne (pc := 86) (tgt := 93) hK dX0_setBoat_86 (by decide) (fun c86 => absurd (by decide) c86) (fun c86 => ?_)
        refine j_iload_n (pc := 89) hK dX0_setBoat_89 rfl ?_
        refine j_goto (pc := 90) (tgt := 99) hK dX0_setBoat_90 (by decide) ?_
        refine xi_astB (pc := 99) (k := 1) (n := 3) hK (by decide) rfl rfl rfl hb (hb.in7 h7) (fun _ e => e) dX0_setBoat_99 ?_
        refine j_aload_n (pc := 100) hK dX0_setBoat_100 rfl ?_
        refine xi_getR (pc := 101) (k := 2) hK (fun _ w => w) (by decide) rfl q750 rfl dX0_setBoat_101 ?_
        refine j_iload_n (pc := 104) hK dX0_setBoat_104 rfl ?_
        refine j_iload_n (pc := 105) hK dX0_setBoat_105 rfl ?_
        refine j_iconst (pc := 106) (v := 1) hK dX0_setBoat_106 (by decide) ?_
        refine j_icmp_ne (pc := 107) (tgt := 114) hK dX0_setBoat_107 (by decide) (fun c107 => ?_) (fun c107 => absurd c107 (by decide))
        refine j_aload_n (pc := 114) hK dX0_setBoat_114 rfl ?_
        refine xi_getR (pc := 115) (k := 2) hK (fun _ w => w) (by decide) rfl q750 rfl dX0_setBoat_115 ?_
        refine j_iload_n (pc := 118) hK dX0_setBoat_118 rfl ?_
        refine xi_aldB (pc := 119) (k := 2) (n := 4) hK (fun _ w => w) (by decide) rfl rfl rfl rfl hb dX0_setBoat_119 ?_
        refine xi_astB (pc := 120) (k := 2) (n := 4) hK (by decide) rfl rfl rfl hb (hb.in7 h7) (fun _ e => e) dX0_setBoat_120 ?_
        rw [ug_id]
        refine j_aload_n (pc := 121) hK dX0_setBoat_121 rfl ?_
        refine xi_getR (pc := 122) (k := 3) hK (fun _ w => w) (by decide) rfl q751 rfl dX0_setBoat_122 ?_
        refine j_iload_n (pc := 125) hK dX0_setBoat_125 rfl ?_
        refine j_iload_n (pc := 126) hK dX0_setBoat_126 rfl ?_
        refine j_iconst (pc := 127) (v := 2) hK dX0_setBoat_127 (by decide) ?_
        refine j_icmp_ne (pc := 128) (tgt := 135) hK dX0_setBoat_128 (by decide) (fun c128 => ?_) (fun c128 => absurd c128 (by decide))
        refine j_aload_n (pc := 135) hK dX0_setBoat_135 rfl ?_
        refine xi_getR (pc := 136) (k := 3) hK (fun _ w => w) (by decide) rfl q751 rfl dX0_setBoat_136 ?_
        refine j_iload_n (pc := 139) hK dX0_setBoat_139 rfl ?_
        refine xi_aldB (pc := 140) (k := 3) (n := 5) hK (fun _ w => w) (by decide) rfl rfl rfl rfl hb dX0_setBoat_140 ?_
        refine xi_astB (pc := 141) (k := 3) (n := 5) hK (by decide) rfl rfl rfl hb (hb.in7 h7) (fun _ e => e) dX0_setBoat_141 ?_
        rw [ug_id]
        refine j_aload_n (pc := 142) hK dX0_setBoat_142 rfl ?_
        refine xi_getR (pc := 143) (k := 0) hK (fun _ w => w) (by decide) rfl q747 rfl dX0_setBoat_143 ?_
        refine j_iload_n (pc := 146) hK dX0_setBoat_146 rfl ?_
        refine xi_baldB (pc := 147) hK (fun _ w => w) hb dX0_setBoat_147 ?_
        refine j_iload_n (pc := 148) hK dX0_setBoat_148 rfl ?_
        refine j_iconst (pc := 149) (v := 3) hK dX0_setBoat_149 (by decide) ?_
        refine j_icmp_ne (pc := 150) (tgt := 157) hK dX0_setBoat_150 (by decide) (fun c150 => ?_) (fun c150 => absurd c150 (by decide))
        refine j_aload_n (pc := 157) hK dX0_setBoat_157 rfl ?_
        refine xi_getR (pc := 158) (k := 0) hK (fun _ w => w) (by decide) rfl q747 rfl dX0_setBoat_158 ?_
        refine j_iload_n (pc := 161) hK dX0_setBoat_161 rfl ?_
        refine xi_baldB (pc := 162) hK (fun _ w => w) hb dX0_setBoat_162 ?_
        refine b_num (pc := 163) hK (xi_bta (fun _ w => w) hb hB') q135 (Or.inl rfl) dX0_setBoat_163 ?_
        refine xi_pnum (pc := 166) hK hb hB' (fun _ e => e) q135 (Or.inl rfl) dX0_setBoat_166 ?_
        rw [ug_id]
        refine j_iload (pc := 169) hK dX0_setBoat_169 rfl ?_
        exact j_iret (pc := 171) hK hQ (nle rfl) (nle rfl) dX0_setBoat_171 (fun h w => ⟨_, rfl, _, _, by first | exact oSet_1 (by decide) (by decide) c52 | exact oSet_2 (by decide) (fun _ => c52) hlo hhi c66 | exact oSet_3 (by decide) (by decide) c52 hlo hhi c66, w⟩)
      · refine j_bipush (pc := 69) (v := (-2)) hK dX0_setBoat_69 (by decide) ?_
        exact j_iret (pc := 71) hK hQ (nle rfl) (nle rfl) dX0_setBoat_71 (fun h w => ⟨_, rfl, _, _, by first | exact oSet_1 (by decide) (by decide) c52 | exact oSet_2 (by decide) (fun _ => c52) hlo hhi c66 | exact oSet_3 (by decide) (by decide) c52 hlo hhi c66, w⟩)
  · have hlo : setLo 1 = 0 := by decide
    have hhi : setHi 1 = 999 := by decide
    refine j_iload_n (pc := 0) hK dX0_setBoat_0 rfl ?_
    refine j_iconst (pc := 1) (v := 2) hK dX0_setBoat_1 (by decide) ?_
    refine j_icmp_ne (pc := 2) (tgt := 9) hK dX0_setBoat_2 (by decide) (fun c2 => ?_) (fun c2 => absurd c2 (by decide))
    refine j_iconst (pc := 9) (v := 0) hK dX0_setBoat_9 (by decide) ?_
    refine j_ist4 (pc := 10) hK dX0_setBoat_10 (by decide) rfl ?_
    refine j_iload_n (pc := 12) hK dX0_setBoat_12 rfl ?_
    refine j_if_ne (pc := 13) (tgt := 21) hK dX0_setBoat_13 (by decide) (fun c13 => ?_) (fun c13 => absurd c13 (by decide))
    refine j_iload_n (pc := 21) hK dX0_setBoat_21 rfl ?_
    refine j_iconst (pc := 22) (v := 1) hK dX0_setBoat_22 (by decide) ?_
    refine j_icmp_ne (pc := 23) (tgt := 32) hK dX0_setBoat_23 (by decide) (fun c23 => absurd (by decide) c23) (fun c23 => ?_)
    refine j_sipush (pc := 26) (v := 999) hK dX0_setBoat_26 (by decide) ?_
    refine j_goto (pc := 29) (tgt := 45) hK dX0_setBoat_29 (by decide) ?_
    refine j_ist5 (pc := 45) hK dX0_setBoat_45 (by decide) rfl ?_
    refine j_aload_n (pc := 47) hK dX0_setBoat_47 rfl ?_
    refine j_iload_n (pc := 48) hK dX0_setBoat_48 rfl ?_
    refine j_callV (pc := 49) hK hQ (c_XisBoat (fun _ w => w) _) cal_X0_isBoat (xi_isC (fun _ w => w)) q186 dX0_setBoat_49 rfl rfl (nle rfl) (nle rfl) (nle rfl) (nle rfl) (kr_i fun r49 => ?_) kx_i
    refine J.pre fun e49 => ?_
    subst e49
    refine j_if_eq_b (pc := 52) (tgt := 69) hK dX0_setBoat_52 (by decide) (fun c52 => ?_) (fun c52 => ?_)
    · refine j_bipush (pc := 69) (v := (-2)) hK dX0_setBoat_69 (by decide) ?_
      exact j_iret (pc := 71) hK hQ (nle rfl) (nle rfl) dX0_setBoat_71 (fun h w => ⟨_, rfl, _, _, by first | exact oSet_1 (by decide) (by decide) c52 | exact oSet_2 (by decide) (fun _ => c52) hlo hhi c66 | exact oSet_3 (by decide) (by decide) c52 hlo hhi c66, w⟩)
    · refine j_iload_n (pc := 55) hK dX0_setBoat_55 rfl ?_
      refine j_i2l (pc := 56) hK dX0_setBoat_56 ?_
      refine j_iload (pc := 57) hK dX0_setBoat_57 rfl ?_
      refine j_i2l (pc := 59) hK dX0_setBoat_59 ?_
      refine j_iload (pc := 60) hK dX0_setBoat_60 rfl ?_
      refine j_i2l (pc := 62) hK dX0_setBoat_62 ?_
      refine j_callS (pc := 63) hK hQ (c_Xin (l := 0) (u := 999) rfl rfl) cal_X0_in q106 dX0_setBoat_63 rfl rfl (nle rfl) (nle rfl) (nle rfl) (nle rfl) (kr_i fun r63 => ?_) kx_i
      refine J.pre fun e63 => ?_
      subst e63
      refine j_if_ne_b (pc := 66) (tgt := 72) hK dX0_setBoat_66 (by decide) (fun c66 => ?_) (fun c66 => ?_)
      · have hb := bo_of c52 hV.1
        have hB := hV.2.1 b hb
        have hB' : InvB (ug g 4 b v) b := hB.up (by right; right; left; exact ⟨rfl, c66⟩)
        refine j_aload_n (pc := 72) hK dX0_setBoat_72 rfl ?_
        refine j_iload_n (pc := 73) hK dX0_setBoat_73 rfl ?_
        refine j_iload_n (pc := 74) hK dX0_setBoat_74 rfl ?_
        refine j_callV (pc := 75) hK hQ (c_XtoldOf (fun _ w => w) _ hb hB) cal_X0_toldOf (xi_isC (fun _ w => w)) q190 dX0_setBoat_75 rfl rfl (nle rfl) (nle rfl) (nle rfl) (nle rfl) (kr_i fun r75 => ?_) kx_i
        refine J.pre fun e75 => ?_
        subst e75
        refine j_ist6 (pc := 78) hK dX0_setBoat_78 (by decide) rfl ?_
        refine j_aload_n (pc := 80) hK dX0_setBoat_80 rfl ?_
        refine xi_getR (pc := 81) (k := 1) hK (fun _ w => w) (by decide) rfl q749 rfl dX0_setBoat_81 ?_
        refine j_iload_n (pc := 84) hK dX0_setBoat_84 rfl ?_
        refine j_iload_n (pc := 85) hK dX0_setBoat_85 rfl ?_
        refine j_if_ne (pc := 86) (tgt := 93) hK dX0_setBoat_86 (by decide) (fun c86 => ?_) (fun c86 => absurd c86 (by decide))
        refine j_aload_n (pc := 93) hK dX0_setBoat_93 rfl ?_
        refine xi_getR (pc := 94) (k := 1) hK (fun _ w => w) (by decide) rfl q749 rfl dX0_setBoat_94 ?_
        refine j_iload_n (pc := 97) hK dX0_setBoat_97 rfl ?_
        refine xi_aldB (pc := 98) (k := 1) (n := 3) hK (fun _ w => w) (by decide) rfl rfl rfl rfl hb dX0_setBoat_98 ?_
        refine xi_astB (pc := 99) (k := 1) (n := 3) hK (by decide) rfl rfl rfl hb (hb.in7 h7) (fun _ e => e) dX0_setBoat_99 ?_
        rw [ug_id]
        refine j_aload_n (pc := 100) hK dX0_setBoat_100 rfl ?_
        refine xi_getR (pc := 101) (k := 2) hK (fun _ w => w) (by decide) rfl q750 rfl dX0_setBoat_101 ?_
        refine j_iload_n (pc := 104) hK dX0_setBoat_104 rfl ?_
        refine j_iload_n (pc := 105) hK dX0_setBoat_105 rfl ?_
        refine j_iconst (pc := 106) (v := 1) hK dX0_setBoat_106 (by decide) ?_
        refine j_icmp_ne (pc := 107) (tgt := 114) hK dX0_setBoat_107 (by decide) (fun c107 => absurd (by decide) c107) (fun c107 => ?_)
        refine j_iload_n (pc := 110) hK dX0_setBoat_110 rfl ?_
        refine j_goto (pc := 111) (tgt := 120) hK dX0_setBoat_111 (by decide) ?_
        refine xi_astB (pc := 120) (k := 2) (n := 4) hK (by decide) rfl rfl rfl hb (hb.in7 h7) (fun _ e => e) dX0_setBoat_120 ?_
        refine j_aload_n (pc := 121) hK dX0_setBoat_121 rfl ?_
        refine xi_getR (pc := 122) (k := 3) hK (fun _ w => w) (by decide) rfl q751 rfl dX0_setBoat_122 ?_
        refine j_iload_n (pc := 125) hK dX0_setBoat_125 rfl ?_
        refine j_iload_n (pc := 126) hK dX0_setBoat_126 rfl ?_
        refine j_iconst (pc := 127) (v := 2) hK dX0_setBoat_127 (by decide) ?_
        refine j_icmp_ne (pc := 128) (tgt := 135) hK dX0_setBoat_128 (by decide) (fun c128 => ?_) (fun c128 => absurd c128 (by decide))
        refine j_aload_n (pc := 135) hK dX0_setBoat_135 rfl ?_
        refine xi_getR (pc := 136) (k := 3) hK (fun _ w => w) (by decide) rfl q751 rfl dX0_setBoat_136 ?_
        refine j_iload_n (pc := 139) hK dX0_setBoat_139 rfl ?_
        refine xi_aldB (pc := 140) (k := 3) (n := 5) hK (fun _ w => w) (by decide) rfl rfl rfl rfl hb dX0_setBoat_140 ?_
        refine xi_astB (pc := 141) (k := 3) (n := 5) hK (by decide) rfl rfl rfl hb (hb.in7 h7) (fun _ e => e) dX0_setBoat_141 ?_
        rw [ug_id]
        refine j_aload_n (pc := 142) hK dX0_setBoat_142 rfl ?_
        refine xi_getR (pc := 143) (k := 0) hK (fun _ w => w) (by decide) rfl q747 rfl dX0_setBoat_143 ?_
        refine j_iload_n (pc := 146) hK dX0_setBoat_146 rfl ?_
        refine xi_baldB (pc := 147) hK (fun _ w => w) hb dX0_setBoat_147 ?_
        refine j_iload_n (pc := 148) hK dX0_setBoat_148 rfl ?_
        refine j_iconst (pc := 149) (v := 3) hK dX0_setBoat_149 (by decide) ?_
        refine j_icmp_ne (pc := 150) (tgt := 157) hK dX0_setBoat_150 (by decide) (fun c150 => ?_) (fun c150 => absurd c150 (by decide))
        refine j_aload_n (pc := 157) hK dX0_setBoat_157 rfl ?_
        refine xi_getR (pc := 158) (k := 0) hK (fun _ w => w) (by decide) rfl q747 rfl dX0_setBoat_158 ?_
        refine j_iload_n (pc := 161) hK dX0_setBoat_161 rfl ?_
        refine xi_baldB (pc := 162) hK (fun _ w => w) hb dX0_setBoat_162 ?_
        refine b_num (pc := 163) hK (xi_bta (fun _ w => w) hb hB') q135 (Or.inl rfl) dX0_setBoat_163 ?_
        refine xi_pnum (pc := 166) hK hb hB' (fun _ e => e) q135 (Or.inl rfl) dX0_setBoat_166 ?_
        rw [ug_id]
        refine j_iload (pc := 169) hK dX0_setBoat_169 rfl ?_
        exact j_iret (pc := 171) hK hQ (nle rfl) (nle rfl) dX0_setBoat_171 (fun h w => ⟨_, rfl, _, _, by first | exact oSet_1 (by decide) (by decide) c52 | exact oSet_2 (by decide) (fun _ => c52) hlo hhi c66 | exact oSet_3 (by decide) (by decide) c52 hlo hhi c66, w⟩)
      · refine j_bipush (pc := 69) (v := (-2)) hK dX0_setBoat_69 (by decide) ?_
        exact j_iret (pc := 71) hK hQ (nle rfl) (nle rfl) dX0_setBoat_71 (fun h w => ⟨_, rfl, _, _, by first | exact oSet_1 (by decide) (by decide) c52 | exact oSet_2 (by decide) (fun _ => c52) hlo hhi c66 | exact oSet_3 (by decide) (by decide) c52 hlo hhi c66, w⟩)
  · have hlo : setLo 2 = 5 := by decide
    have hhi : setHi 2 = 240 := by decide
    refine j_iload_n (pc := 0) hK dX0_setBoat_0 rfl ?_
    refine j_iconst (pc := 1) (v := 2) hK dX0_setBoat_1 (by decide) ?_
    refine j_icmp_ne (pc := 2) (tgt := 9) hK dX0_setBoat_2 (by decide) (fun c2 => absurd (by decide) c2) (fun c2 => ?_)
    refine j_iconst (pc := 5) (v := 5) hK dX0_setBoat_5 (by decide) ?_
    refine j_goto (pc := 6) (tgt := 10) hK dX0_setBoat_6 (by decide) ?_
    refine j_ist4 (pc := 10) hK dX0_setBoat_10 (by decide) rfl ?_
    refine j_iload_n (pc := 12) hK dX0_setBoat_12 rfl ?_
    refine j_if_ne (pc := 13) (tgt := 21) hK dX0_setBoat_13 (by decide) (fun c13 => ?_) (fun c13 => absurd c13 (by decide))
    refine j_iload_n (pc := 21) hK dX0_setBoat_21 rfl ?_
    refine j_iconst (pc := 22) (v := 1) hK dX0_setBoat_22 (by decide) ?_
    refine j_icmp_ne (pc := 23) (tgt := 32) hK dX0_setBoat_23 (by decide) (fun c23 => ?_) (fun c23 => absurd c23 (by decide))
    refine j_iload_n (pc := 32) hK dX0_setBoat_32 rfl ?_
    refine j_iconst (pc := 33) (v := 2) hK dX0_setBoat_33 (by decide) ?_
    refine j_icmp_ne (pc := 34) (tgt := 43) hK dX0_setBoat_34 (by decide) (fun c34 => absurd (by decide) c34) (fun c34 => ?_)
    refine j_sipush (pc := 37) (v := 240) hK dX0_setBoat_37 (by decide) ?_
    refine j_goto (pc := 40) (tgt := 45) hK dX0_setBoat_40 (by decide) ?_
    refine j_ist5 (pc := 45) hK dX0_setBoat_45 (by decide) rfl ?_
    refine j_aload_n (pc := 47) hK dX0_setBoat_47 rfl ?_
    refine j_iload_n (pc := 48) hK dX0_setBoat_48 rfl ?_
    refine j_callV (pc := 49) hK hQ (c_XisBoat (fun _ w => w) _) cal_X0_isBoat (xi_isC (fun _ w => w)) q186 dX0_setBoat_49 rfl rfl (nle rfl) (nle rfl) (nle rfl) (nle rfl) (kr_i fun r49 => ?_) kx_i
    refine J.pre fun e49 => ?_
    subst e49
    refine j_if_eq_b (pc := 52) (tgt := 69) hK dX0_setBoat_52 (by decide) (fun c52 => ?_) (fun c52 => ?_)
    · refine j_bipush (pc := 69) (v := (-2)) hK dX0_setBoat_69 (by decide) ?_
      exact j_iret (pc := 71) hK hQ (nle rfl) (nle rfl) dX0_setBoat_71 (fun h w => ⟨_, rfl, _, _, by first | exact oSet_1 (by decide) (by decide) c52 | exact oSet_2 (by decide) (fun _ => c52) hlo hhi c66 | exact oSet_3 (by decide) (by decide) c52 hlo hhi c66, w⟩)
    · refine j_iload_n (pc := 55) hK dX0_setBoat_55 rfl ?_
      refine j_i2l (pc := 56) hK dX0_setBoat_56 ?_
      refine j_iload (pc := 57) hK dX0_setBoat_57 rfl ?_
      refine j_i2l (pc := 59) hK dX0_setBoat_59 ?_
      refine j_iload (pc := 60) hK dX0_setBoat_60 rfl ?_
      refine j_i2l (pc := 62) hK dX0_setBoat_62 ?_
      refine j_callS (pc := 63) hK hQ (c_Xin (l := 5) (u := 240) rfl rfl) cal_X0_in q106 dX0_setBoat_63 rfl rfl (nle rfl) (nle rfl) (nle rfl) (nle rfl) (kr_i fun r63 => ?_) kx_i
      refine J.pre fun e63 => ?_
      subst e63
      refine j_if_ne_b (pc := 66) (tgt := 72) hK dX0_setBoat_66 (by decide) (fun c66 => ?_) (fun c66 => ?_)
      · have hb := bo_of c52 hV.1
        have hB := hV.2.1 b hb
        have hB' : InvB (ug g 5 b v) b := hB.up (by right; right; right; left; exact ⟨rfl, c66⟩)
        refine j_aload_n (pc := 72) hK dX0_setBoat_72 rfl ?_
        refine j_iload_n (pc := 73) hK dX0_setBoat_73 rfl ?_
        refine j_iload_n (pc := 74) hK dX0_setBoat_74 rfl ?_
        refine j_callV (pc := 75) hK hQ (c_XtoldOf (fun _ w => w) _ hb hB) cal_X0_toldOf (xi_isC (fun _ w => w)) q190 dX0_setBoat_75 rfl rfl (nle rfl) (nle rfl) (nle rfl) (nle rfl) (kr_i fun r75 => ?_) kx_i
        refine J.pre fun e75 => ?_
        subst e75
        refine j_ist6 (pc := 78) hK dX0_setBoat_78 (by decide) rfl ?_
        refine j_aload_n (pc := 80) hK dX0_setBoat_80 rfl ?_
        refine xi_getR (pc := 81) (k := 1) hK (fun _ w => w) (by decide) rfl q749 rfl dX0_setBoat_81 ?_
        refine j_iload_n (pc := 84) hK dX0_setBoat_84 rfl ?_
        refine j_iload_n (pc := 85) hK dX0_setBoat_85 rfl ?_
        refine j_if_ne (pc := 86) (tgt := 93) hK dX0_setBoat_86 (by decide) (fun c86 => ?_) (fun c86 => absurd c86 (by decide))
        refine j_aload_n (pc := 93) hK dX0_setBoat_93 rfl ?_
        refine xi_getR (pc := 94) (k := 1) hK (fun _ w => w) (by decide) rfl q749 rfl dX0_setBoat_94 ?_
        refine j_iload_n (pc := 97) hK dX0_setBoat_97 rfl ?_
        refine xi_aldB (pc := 98) (k := 1) (n := 3) hK (fun _ w => w) (by decide) rfl rfl rfl rfl hb dX0_setBoat_98 ?_
        refine xi_astB (pc := 99) (k := 1) (n := 3) hK (by decide) rfl rfl rfl hb (hb.in7 h7) (fun _ e => e) dX0_setBoat_99 ?_
        rw [ug_id]
        refine j_aload_n (pc := 100) hK dX0_setBoat_100 rfl ?_
        refine xi_getR (pc := 101) (k := 2) hK (fun _ w => w) (by decide) rfl q750 rfl dX0_setBoat_101 ?_
        refine j_iload_n (pc := 104) hK dX0_setBoat_104 rfl ?_
        refine j_iload_n (pc := 105) hK dX0_setBoat_105 rfl ?_
        refine j_iconst (pc := 106) (v := 1) hK dX0_setBoat_106 (by decide) ?_
        refine j_icmp_ne (pc := 107) (tgt := 114) hK dX0_setBoat_107 (by decide) (fun c107 => ?_) (fun c107 => absurd c107 (by decide))
        refine j_aload_n (pc := 114) hK dX0_setBoat_114 rfl ?_
        refine xi_getR (pc := 115) (k := 2) hK (fun _ w => w) (by decide) rfl q750 rfl dX0_setBoat_115 ?_
        refine j_iload_n (pc := 118) hK dX0_setBoat_118 rfl ?_
        refine xi_aldB (pc := 119) (k := 2) (n := 4) hK (fun _ w => w) (by decide) rfl rfl rfl rfl hb dX0_setBoat_119 ?_
        refine xi_astB (pc := 120) (k := 2) (n := 4) hK (by decide) rfl rfl rfl hb (hb.in7 h7) (fun _ e => e) dX0_setBoat_120 ?_
        rw [ug_id]
        refine j_aload_n (pc := 121) hK dX0_setBoat_121 rfl ?_
        refine xi_getR (pc := 122) (k := 3) hK (fun _ w => w) (by decide) rfl q751 rfl dX0_setBoat_122 ?_
        refine j_iload_n (pc := 125) hK dX0_setBoat_125 rfl ?_
        refine j_iload_n (pc := 126) hK dX0_setBoat_126 rfl ?_
        refine j_iconst (pc := 127) (v := 2) hK dX0_setBoat_127 (by decide) ?_
        refine j_icmp_ne (pc := 128) (tgt := 135) hK dX0_setBoat_128 (by decide) (fun c128 => absurd (by decide) c128) (fun c128 => ?_)
        refine j_iload_n (pc := 131) hK dX0_setBoat_131 rfl ?_
        refine j_goto (pc := 132) (tgt := 141) hK dX0_setBoat_132 (by decide) ?_
        refine xi_astB (pc := 141) (k := 3) (n := 5) hK (by decide) rfl rfl rfl hb (hb.in7 h7) (fun _ e => e) dX0_setBoat_141 ?_
        refine j_aload_n (pc := 142) hK dX0_setBoat_142 rfl ?_
        refine xi_getR (pc := 143) (k := 0) hK (fun _ w => w) (by decide) rfl q747 rfl dX0_setBoat_143 ?_
        refine j_iload_n (pc := 146) hK dX0_setBoat_146 rfl ?_
        refine xi_baldB (pc := 147) hK (fun _ w => w) hb dX0_setBoat_147 ?_
        refine j_iload_n (pc := 148) hK dX0_setBoat_148 rfl ?_
        refine j_iconst (pc := 149) (v := 3) hK dX0_setBoat_149 (by decide) ?_
        refine j_icmp_ne (pc := 150) (tgt := 157) hK dX0_setBoat_150 (by decide) (fun c150 => ?_) (fun c150 => absurd c150 (by decide))
        refine j_aload_n (pc := 157) hK dX0_setBoat_157 rfl ?_
        refine xi_getR (pc := 158) (k := 0) hK (fun _ w => w) (by decide) rfl q747 rfl dX0_setBoat_158 ?_
        refine j_iload_n (pc := 161) hK dX0_setBoat_161 rfl ?_
        refine xi_baldB (pc := 162) hK (fun _ w => w) hb dX0_setBoat_162 ?_
        refine b_num (pc := 163) hK (xi_bta (fun _ w => w) hb hB') q135 (Or.inl rfl) dX0_setBoat_163 ?_
        refine xi_pnum (pc := 166) hK hb hB' (fun _ e => e) q135 (Or.inl rfl) dX0_setBoat_166 ?_
        rw [ug_id]
        refine j_iload (pc := 169) hK dX0_setBoat_169 rfl ?_
        exact j_iret (pc := 171) hK hQ (nle rfl) (nle rfl) dX0_setBoat_171 (fun h w => ⟨_, rfl, _, _, by first | exact oSet_1 (by decide) (by decide) c52 | exact oSet_2 (by decide) (fun _ => c52) hlo hhi c66 | exact oSet_3 (by decide) (by decide) c52 hlo hhi c66, w⟩)
      · refine j_bipush (pc := 69) (v := (-2)) hK dX0_setBoat_69 (by decide) ?_
        exact j_iret (pc := 71) hK hQ (nle rfl) (nle rfl) dX0_setBoat_71 (fun h w => ⟨_, rfl, _, _, by first | exact oSet_1 (by decide) (by decide) c52 | exact oSet_2 (by decide) (fun _ => c52) hlo hhi c66 | exact oSet_3 (by decide) (by decide) c52 hlo hhi c66, w⟩)
  · have hlo : setLo 3 = 0 := by decide
    have hhi : setHi 3 = 9 := by decide
    refine j_iload_n (pc := 0) hK dX0_setBoat_0 rfl ?_
    refine j_iconst (pc := 1) (v := 2) hK dX0_setBoat_1 (by decide) ?_
    refine j_icmp_ne (pc := 2) (tgt := 9) hK dX0_setBoat_2 (by decide) (fun c2 => ?_) (fun c2 => absurd c2 (by decide))
    refine j_iconst (pc := 9) (v := 0) hK dX0_setBoat_9 (by decide) ?_
    refine j_ist4 (pc := 10) hK dX0_setBoat_10 (by decide) rfl ?_
    refine j_iload_n (pc := 12) hK dX0_setBoat_12 rfl ?_
    refine j_if_ne (pc := 13) (tgt := 21) hK dX0_setBoat_13 (by decide) (fun c13 => ?_) (fun c13 => absurd c13 (by decide))
    refine j_iload_n (pc := 21) hK dX0_setBoat_21 rfl ?_
    refine j_iconst (pc := 22) (v := 1) hK dX0_setBoat_22 (by decide) ?_
    refine j_icmp_ne (pc := 23) (tgt := 32) hK dX0_setBoat_23 (by decide) (fun c23 => ?_) (fun c23 => absurd c23 (by decide))
    refine j_iload_n (pc := 32) hK dX0_setBoat_32 rfl ?_
    refine j_iconst (pc := 33) (v := 2) hK dX0_setBoat_33 (by decide) ?_
    refine j_icmp_ne (pc := 34) (tgt := 43) hK dX0_setBoat_34 (by decide) (fun c34 => ?_) (fun c34 => absurd c34 (by decide))
    refine j_bipush (pc := 43) (v := 9) hK dX0_setBoat_43 (by decide) ?_
    refine j_ist5 (pc := 45) hK dX0_setBoat_45 (by decide) rfl ?_
    refine j_aload_n (pc := 47) hK dX0_setBoat_47 rfl ?_
    refine j_iload_n (pc := 48) hK dX0_setBoat_48 rfl ?_
    refine j_callV (pc := 49) hK hQ (c_XisBoat (fun _ w => w) _) cal_X0_isBoat (xi_isC (fun _ w => w)) q186 dX0_setBoat_49 rfl rfl (nle rfl) (nle rfl) (nle rfl) (nle rfl) (kr_i fun r49 => ?_) kx_i
    refine J.pre fun e49 => ?_
    subst e49
    refine j_if_eq_b (pc := 52) (tgt := 69) hK dX0_setBoat_52 (by decide) (fun c52 => ?_) (fun c52 => ?_)
    · refine j_bipush (pc := 69) (v := (-2)) hK dX0_setBoat_69 (by decide) ?_
      exact j_iret (pc := 71) hK hQ (nle rfl) (nle rfl) dX0_setBoat_71 (fun h w => ⟨_, rfl, _, _, by first | exact oSet_1 (by decide) (by decide) c52 | exact oSet_2 (by decide) (fun _ => c52) hlo hhi c66 | exact oSet_3 (by decide) (by decide) c52 hlo hhi c66, w⟩)
    · refine j_iload_n (pc := 55) hK dX0_setBoat_55 rfl ?_
      refine j_i2l (pc := 56) hK dX0_setBoat_56 ?_
      refine j_iload (pc := 57) hK dX0_setBoat_57 rfl ?_
      refine j_i2l (pc := 59) hK dX0_setBoat_59 ?_
      refine j_iload (pc := 60) hK dX0_setBoat_60 rfl ?_
      refine j_i2l (pc := 62) hK dX0_setBoat_62 ?_
      refine j_callS (pc := 63) hK hQ (c_Xin (l := 0) (u := 9) rfl rfl) cal_X0_in q106 dX0_setBoat_63 rfl rfl (nle rfl) (nle rfl) (nle rfl) (nle rfl) (kr_i fun r63 => ?_) kx_i
      refine J.pre fun e63 => ?_
      subst e63
      refine j_if_ne_b (pc := 66) (tgt := 72) hK dX0_setBoat_66 (by decide) (fun c66 => ?_) (fun c66 => ?_)
      · have hb := bo_of c52 hV.1
        have hB := hV.2.1 b hb
        have hB' : InvB (ug g 2 b v) b := hB.up (by left; exact ⟨rfl, c66⟩)
        refine j_aload_n (pc := 72) hK dX0_setBoat_72 rfl ?_
        refine j_iload_n (pc := 73) hK dX0_setBoat_73 rfl ?_
        refine j_iload_n (pc := 74) hK dX0_setBoat_74 rfl ?_
        refine j_callV (pc := 75) hK hQ (c_XtoldOf (fun _ w => w) _ hb hB) cal_X0_toldOf (xi_isC (fun _ w => w)) q190 dX0_setBoat_75 rfl rfl (nle rfl) (nle rfl) (nle rfl) (nle rfl) (kr_i fun r75 => ?_) kx_i
        refine J.pre fun e75 => ?_
        subst e75
        refine j_ist6 (pc := 78) hK dX0_setBoat_78 (by decide) rfl ?_
        refine j_aload_n (pc := 80) hK dX0_setBoat_80 rfl ?_
        refine xi_getR (pc := 81) (k := 1) hK (fun _ w => w) (by decide) rfl q749 rfl dX0_setBoat_81 ?_
        refine j_iload_n (pc := 84) hK dX0_setBoat_84 rfl ?_
        refine j_iload_n (pc := 85) hK dX0_setBoat_85 rfl ?_
        refine j_if_ne (pc := 86) (tgt := 93) hK dX0_setBoat_86 (by decide) (fun c86 => ?_) (fun c86 => absurd c86 (by decide))
        refine j_aload_n (pc := 93) hK dX0_setBoat_93 rfl ?_
        refine xi_getR (pc := 94) (k := 1) hK (fun _ w => w) (by decide) rfl q749 rfl dX0_setBoat_94 ?_
        refine j_iload_n (pc := 97) hK dX0_setBoat_97 rfl ?_
        refine xi_aldB (pc := 98) (k := 1) (n := 3) hK (fun _ w => w) (by decide) rfl rfl rfl rfl hb dX0_setBoat_98 ?_
        refine xi_astB (pc := 99) (k := 1) (n := 3) hK (by decide) rfl rfl rfl hb (hb.in7 h7) (fun _ e => e) dX0_setBoat_99 ?_
        rw [ug_id]
        refine j_aload_n (pc := 100) hK dX0_setBoat_100 rfl ?_
        refine xi_getR (pc := 101) (k := 2) hK (fun _ w => w) (by decide) rfl q750 rfl dX0_setBoat_101 ?_
        refine j_iload_n (pc := 104) hK dX0_setBoat_104 rfl ?_
        refine j_iload_n (pc := 105) hK dX0_setBoat_105 rfl ?_
        refine j_iconst (pc := 106) (v := 1) hK dX0_setBoat_106 (by decide) ?_
        refine j_icmp_ne (pc := 107) (tgt := 114) hK dX0_setBoat_107 (by decide) (fun c107 => ?_) (fun c107 => absurd c107 (by decide))
        refine j_aload_n (pc := 114) hK dX0_setBoat_114 rfl ?_
        refine xi_getR (pc := 115) (k := 2) hK (fun _ w => w) (by decide) rfl q750 rfl dX0_setBoat_115 ?_
        refine j_iload_n (pc := 118) hK dX0_setBoat_118 rfl ?_
        refine xi_aldB (pc := 119) (k := 2) (n := 4) hK (fun _ w => w) (by decide) rfl rfl rfl rfl hb dX0_setBoat_119 ?_
        refine xi_astB (pc := 120) (k := 2) (n := 4) hK (by decide) rfl rfl rfl hb (hb.in7 h7) (fun _ e => e) dX0_setBoat_120 ?_
        rw [ug_id]
        refine j_aload_n (pc := 121) hK dX0_setBoat_121 rfl ?_
        refine xi_getR (pc := 122) (k := 3) hK (fun _ w => w) (by decide) rfl q751 rfl dX0_setBoat_122 ?_
        refine j_iload_n (pc := 125) hK dX0_setBoat_125 rfl ?_
        refine j_iload_n (pc := 126) hK dX0_setBoat_126 rfl ?_
        refine j_iconst (pc := 127) (v := 2) hK dX0_setBoat_127 (by decide) ?_
        refine j_icmp_ne (pc := 128) (tgt := 135) hK dX0_setBoat_128 (by decide) (fun c128 => ?_) (fun c128 => absurd c128 (by decide))
        refine j_aload_n (pc := 135) hK dX0_setBoat_135 rfl ?_
        refine xi_getR (pc := 136) (k := 3) hK (fun _ w => w) (by decide) rfl q751 rfl dX0_setBoat_136 ?_
        refine j_iload_n (pc := 139) hK dX0_setBoat_139 rfl ?_
        refine xi_aldB (pc := 140) (k := 3) (n := 5) hK (fun _ w => w) (by decide) rfl rfl rfl rfl hb dX0_setBoat_140 ?_
        refine xi_astB (pc := 141) (k := 3) (n := 5) hK (by decide) rfl rfl rfl hb (hb.in7 h7) (fun _ e => e) dX0_setBoat_141 ?_
        rw [ug_id]
        refine j_aload_n (pc := 142) hK dX0_setBoat_142 rfl ?_
        refine xi_getR (pc := 143) (k := 0) hK (fun _ w => w) (by decide) rfl q747 rfl dX0_setBoat_143 ?_
        refine j_iload_n (pc := 146) hK dX0_setBoat_146 rfl ?_
        refine xi_baldB (pc := 147) hK (fun _ w => w) hb dX0_setBoat_147 ?_
        refine j_iload_n (pc := 148) hK dX0_setBoat_148 rfl ?_
        refine j_iconst (pc := 149) (v := 3) hK dX0_setBoat_149 (by decide) ?_
        refine j_icmp_ne (pc := 150) (tgt := 157) hK dX0_setBoat_150 (by decide) (fun c150 => absurd (by decide) c150) (fun c150 => ?_)
        refine j_iload_n (pc := 153) hK dX0_setBoat_153 rfl ?_
        refine j_goto (pc := 154) (tgt := 166) hK dX0_setBoat_154 (by decide) ?_
        refine xi_pnum (pc := 166) hK hb hB (fun _ e => e) q135 (Or.inl rfl) dX0_setBoat_166 ?_
        refine j_iload (pc := 169) hK dX0_setBoat_169 rfl ?_
        exact j_iret (pc := 171) hK hQ (nle rfl) (nle rfl) dX0_setBoat_171 (fun h w => ⟨_, rfl, _, _, by first | exact oSet_1 (by decide) (by decide) c52 | exact oSet_2 (by decide) (fun _ => c52) hlo hhi c66 | exact oSet_3 (by decide) (by decide) c52 hlo hhi c66, w⟩)
      · refine j_bipush (pc := 69) (v := (-2)) hK dX0_setBoat_69 (by decide) ?_
        exact j_iret (pc := 71) hK hQ (nle rfl) (nle rfl) dX0_setBoat_71 (fun h w => ⟨_, rfl, _, _, by first | exact oSet_1 (by decide) (by decide) c52 | exact oSet_2 (by decide) (fun _ => c52) hlo hhi c66 | exact oSet_3 (by decide) (by decide) c52 hlo hhi c66, w⟩)
theorem c_Xset {what b v : Int32} (hV : XV f g T) : Ct Γ A yX0_set wX0_set 4 0 0 [.ref (L 35), .int what, .int b, .int v] (XI Γ L f g T TT) (RI (XO Γ L T (oSet f g what b v))) := by
  by_cases hw : 0 ≤ what ∧ what ≤ 8
  · obtain ⟨n, hn, ew⟩ := nI_of2 (M := 8) (n := 8) (by decide) (Int32.not_lt.mpr hw.1) hw.2
    refine Ct.of (cc := cX0_set) (nL := 5) (ret := (some .int)) (ls := [some (.ref (L 35)), some (.int what), some (.int b), some (.int v), none]) rfl rfl rfl (nle rfl) ?_
    intro K hK hQ
    by_cases h3 : n ≤ 3
    · have hw4 : what = 0 ∨ what = 1 ∨ what = 2 ∨ what = 3 := by
        rcases (show n = 0 ∨ n = 1 ∨ n = 2 ∨ n = 3 by omega) with rfl | rfl | rfl | rfl
        · exact Or.inl ew
        · exact Or.inr (Or.inl ew)
        · exact Or.inr (Or.inr (Or.inl ew))
        · exact Or.inr (Or.inr (Or.inr ew))
      have hc : 0 ≤ what ∧ what ≤ 3 := by rcases hw4 with rfl | rfl | rfl | rfl <;> decide
      refine j_iload_n (pc := 0) hK dX0_set_0 rfl ?_
      refine j_i2l (pc := 1) hK dX0_set_1 ?_
      refine j_lconst (pc := 2) (v := 0) hK dX0_set_2 (by decide) ?_
      refine j_ldc2 (pc := 3) hK q180 dX0_set_3 ?_
      refine j_callS (pc := 6) hK hQ (c_Xin (l := 0) (u := 3) (by decide) (by decide)) cal_X0_in q106 dX0_set_6 rfl rfl (nle rfl) (nle rfl) (nle rfl) (nle rfl) (kr_i fun r6 => ?_) kx_i
      refine J.pre fun e6 => ?_
      subst e6
      refine j_if_eq_b (pc := 9) (tgt := 20) hK dX0_set_9 (by decide) (fun c9 => absurd hc c9) (fun c9 => ?_)
      refine j_aload_n (pc := 12) hK dX0_set_12 rfl ?_
      refine j_iload_n (pc := 13) hK dX0_set_13 rfl ?_
      refine j_iload_n (pc := 14) hK dX0_set_14 rfl ?_
      refine j_iload_n (pc := 15) hK dX0_set_15 rfl ?_
      refine j_callV (pc := 16) hK hQ (c_XsetBoat hw4 hV) cal_X0_setBoat (xi_isC (fun _ w => w)) q181 dX0_set_16 rfl rfl (nle rfl) (nle rfl) (nle rfl) (nle rfl) (kr_i fun r16 => ?_) kx_i
      skip
      exact j_iret (pc := 19) hK hQ (nle rfl) (nle rfl) dX0_set_19 (fun h w => ⟨_, rfl, w⟩)
    · clear hw
      rcases (show n = 4 ∨ n = 5 ∨ n = 6 ∨ n = 7 ∨ n = 8 by omega) with rfl | rfl | rfl | rfl | rfl
      · replace ew : what = (4 : Int32) := ew
        subst ew
        have hlo : setLo 4 = 0 := by decide
        have hhi : setHi 4 = 47 := by decide
        refine j_iload_n (pc := 0) hK dX0_set_0 rfl ?_
        refine j_i2l (pc := 1) hK dX0_set_1 ?_
        refine j_lconst (pc := 2) (v := 0) hK dX0_set_2 (by decide) ?_
        refine j_ldc2 (pc := 3) hK q180 dX0_set_3 ?_
        refine j_callS (pc := 6) hK hQ (c_Xin (l := 0) (u := 3) (by decide) (by decide)) cal_X0_in q106 dX0_set_6 rfl rfl (nle rfl) (nle rfl) (nle rfl) (nle rfl) (kr_i fun r6 => ?_) kx_i
        refine J.pre fun e6 => ?_
        subst e6
        refine j_if_eq_b (pc := 9) (tgt := 20) hK dX0_set_9 (by decide) (fun c9 => ?_) (fun c9 => absurd c9 (by decide))
        refine j_iload_n (pc := 20) hK dX0_set_20 rfl ?_
        refine j_i2l (pc := 21) hK dX0_set_21 ?_
        refine j_ldc2 (pc := 22) hK q194 dX0_set_22 ?_
        refine j_ldc2 (pc := 25) hK q195 dX0_set_25 ?_
        refine j_callS (pc := 28) hK hQ (c_Xin (l := 4) (u := 8) (by decide) (by decide)) cal_X0_in q106 dX0_set_28 rfl rfl (nle rfl) (nle rfl) (nle rfl) (nle rfl) (kr_i fun r28 => ?_) kx_i
        refine J.pre fun e28 => ?_
        subst e28
        refine j_if_eq_b (pc := 31) (tgt := 52) hK dX0_set_31 (by decide) (fun c31 => absurd (by decide) c31) (fun c31 => ?_)
        refine j_iload_n (pc := 34) hK dX0_set_34 rfl ?_
        refine j_i2l (pc := 35) hK dX0_set_35 ?_
        refine j_iload_n (pc := 36) hK dX0_set_36 rfl ?_
        refine j_callS (pc := 37) hK hQ (c_XlowOf _) cal_X0_lowOf q196 dX0_set_37 rfl rfl (nle rfl) (nle rfl) (nle rfl) (nle rfl) (kr_i fun r37 => ?_) kx_i
        refine J.pre fun e37 => ?_
        subst e37
        refine j_i2l (pc := 40) hK dX0_set_40 ?_
        refine j_iload_n (pc := 41) hK dX0_set_41 rfl ?_
        refine j_callS (pc := 42) hK hQ (c_XhighOf _) cal_X0_highOf q199 dX0_set_42 rfl rfl (nle rfl) (nle rfl) (nle rfl) (nle rfl) (kr_i fun r42 => ?_) kx_i
        refine J.pre fun e42 => ?_
        subst e42
        refine j_i2l (pc := 45) hK dX0_set_45 ?_
        refine j_callS (pc := 46) hK hQ (c_Xin (l := 0) (u := 47) (by decide) (by decide)) cal_X0_in q106 dX0_set_46 rfl rfl (nle rfl) (nle rfl) (nle rfl) (nle rfl) (kr_i fun r46 => ?_) kx_i
        refine J.pre fun e46 => ?_
        subst e46
        refine j_if_ne_b (pc := 49) (tgt := 55) hK dX0_set_49 (by decide) (fun c49 => ?_) (fun c49 => ?_)
        · refine j_aload_n (pc := 55) hK dX0_set_55 rfl ?_
          refine xi_getR (pc := 56) (k := 7) hK (fun _ w => w) (by decide) rfl q756 rfl dX0_set_56 ?_
          refine j_iload_n (pc := 59) hK dX0_set_59 rfl ?_
          refine j_iconst (pc := 60) (v := 4) hK dX0_set_60 (by decide) ?_
          refine j_isub (pc := 61) hK dX0_set_61 ?_
          refine xi_aldL (pc := 62) (i := 0) (n := 8) hK (fun _ w => w) (by decide) rfl (by decide) dX0_set_62 ?_
          refine j_ist4 (pc := 63) hK dX0_set_63 (by decide) rfl ?_
          refine j_aload_n (pc := 65) hK dX0_set_65 rfl ?_
          refine xi_getR (pc := 66) (k := 7) hK (fun _ w => w) (by decide) rfl q756 rfl dX0_set_66 ?_
          refine j_iload_n (pc := 69) hK dX0_set_69 rfl ?_
          refine j_iconst (pc := 70) (v := 4) hK dX0_set_70 (by decide) ?_
          refine j_isub (pc := 71) hK dX0_set_71 ?_
          refine j_iload_n (pc := 72) hK dX0_set_72 rfl ?_
          refine xi_astL (pc := 73) (i := 0) (n := 8) hK (by decide) rfl (by decide) (fun _ e => e) dX0_set_73 ?_
          refine j_iload (pc := 74) hK dX0_set_74 rfl ?_
          exact j_iret (pc := 76) hK hQ (nle rfl) (nle rfl) dX0_set_76 (fun h w => ⟨_, rfl, _, _, by first | exact oSet_2 (by decide) (fun z => absurd z (by decide)) hlo hhi c49 | exact oSet_4 (by decide) (by decide) hlo hhi c49, w⟩)
        · refine j_bipush (pc := 52) (v := (-2)) hK dX0_set_52 (by decide) ?_
          exact j_iret (pc := 54) hK hQ (nle rfl) (nle rfl) dX0_set_54 (fun h w => ⟨_, rfl, _, _, by first | exact oSet_2 (by decide) (fun z => absurd z (by decide)) hlo hhi c49 | exact oSet_4 (by decide) (by decide) hlo hhi c49, w⟩)
      · replace ew : what = (5 : Int32) := ew
        subst ew
        have hlo : setLo 5 = 0 := by decide
        have hhi : setHi 5 = 9 := by decide
        refine j_iload_n (pc := 0) hK dX0_set_0 rfl ?_
        refine j_i2l (pc := 1) hK dX0_set_1 ?_
        refine j_lconst (pc := 2) (v := 0) hK dX0_set_2 (by decide) ?_
        refine j_ldc2 (pc := 3) hK q180 dX0_set_3 ?_
        refine j_callS (pc := 6) hK hQ (c_Xin (l := 0) (u := 3) (by decide) (by decide)) cal_X0_in q106 dX0_set_6 rfl rfl (nle rfl) (nle rfl) (nle rfl) (nle rfl) (kr_i fun r6 => ?_) kx_i
        refine J.pre fun e6 => ?_
        subst e6
        refine j_if_eq_b (pc := 9) (tgt := 20) hK dX0_set_9 (by decide) (fun c9 => ?_) (fun c9 => absurd c9 (by decide))
        refine j_iload_n (pc := 20) hK dX0_set_20 rfl ?_
        refine j_i2l (pc := 21) hK dX0_set_21 ?_
        refine j_ldc2 (pc := 22) hK q194 dX0_set_22 ?_
        refine j_ldc2 (pc := 25) hK q195 dX0_set_25 ?_
        refine j_callS (pc := 28) hK hQ (c_Xin (l := 4) (u := 8) (by decide) (by decide)) cal_X0_in q106 dX0_set_28 rfl rfl (nle rfl) (nle rfl) (nle rfl) (nle rfl) (kr_i fun r28 => ?_) kx_i
        refine J.pre fun e28 => ?_
        subst e28
        refine j_if_eq_b (pc := 31) (tgt := 52) hK dX0_set_31 (by decide) (fun c31 => absurd (by decide) c31) (fun c31 => ?_)
        refine j_iload_n (pc := 34) hK dX0_set_34 rfl ?_
        refine j_i2l (pc := 35) hK dX0_set_35 ?_
        refine j_iload_n (pc := 36) hK dX0_set_36 rfl ?_
        refine j_callS (pc := 37) hK hQ (c_XlowOf _) cal_X0_lowOf q196 dX0_set_37 rfl rfl (nle rfl) (nle rfl) (nle rfl) (nle rfl) (kr_i fun r37 => ?_) kx_i
        refine J.pre fun e37 => ?_
        subst e37
        refine j_i2l (pc := 40) hK dX0_set_40 ?_
        refine j_iload_n (pc := 41) hK dX0_set_41 rfl ?_
        refine j_callS (pc := 42) hK hQ (c_XhighOf _) cal_X0_highOf q199 dX0_set_42 rfl rfl (nle rfl) (nle rfl) (nle rfl) (nle rfl) (kr_i fun r42 => ?_) kx_i
        refine J.pre fun e42 => ?_
        subst e42
        refine j_i2l (pc := 45) hK dX0_set_45 ?_
        refine j_callS (pc := 46) hK hQ (c_Xin (l := 0) (u := 9) (by decide) (by decide)) cal_X0_in q106 dX0_set_46 rfl rfl (nle rfl) (nle rfl) (nle rfl) (nle rfl) (kr_i fun r46 => ?_) kx_i
        refine J.pre fun e46 => ?_
        subst e46
        refine j_if_ne_b (pc := 49) (tgt := 55) hK dX0_set_49 (by decide) (fun c49 => ?_) (fun c49 => ?_)
        · refine j_aload_n (pc := 55) hK dX0_set_55 rfl ?_
          refine xi_getR (pc := 56) (k := 7) hK (fun _ w => w) (by decide) rfl q756 rfl dX0_set_56 ?_
          refine j_iload_n (pc := 59) hK dX0_set_59 rfl ?_
          refine j_iconst (pc := 60) (v := 4) hK dX0_set_60 (by decide) ?_
          refine j_isub (pc := 61) hK dX0_set_61 ?_
          refine xi_aldL (pc := 62) (i := 1) (n := 9) hK (fun _ w => w) (by decide) rfl (by decide) dX0_set_62 ?_
          refine j_ist4 (pc := 63) hK dX0_set_63 (by decide) rfl ?_
          refine j_aload_n (pc := 65) hK dX0_set_65 rfl ?_
          refine xi_getR (pc := 66) (k := 7) hK (fun _ w => w) (by decide) rfl q756 rfl dX0_set_66 ?_
          refine j_iload_n (pc := 69) hK dX0_set_69 rfl ?_
          refine j_iconst (pc := 70) (v := 4) hK dX0_set_70 (by decide) ?_
          refine j_isub (pc := 71) hK dX0_set_71 ?_
          refine j_iload_n (pc := 72) hK dX0_set_72 rfl ?_
          refine xi_astL (pc := 73) (i := 1) (n := 9) hK (by decide) rfl (by decide) (fun _ e => e) dX0_set_73 ?_
          refine j_iload (pc := 74) hK dX0_set_74 rfl ?_
          exact j_iret (pc := 76) hK hQ (nle rfl) (nle rfl) dX0_set_76 (fun h w => ⟨_, rfl, _, _, by first | exact oSet_2 (by decide) (fun z => absurd z (by decide)) hlo hhi c49 | exact oSet_4 (by decide) (by decide) hlo hhi c49, w⟩)
        · refine j_bipush (pc := 52) (v := (-2)) hK dX0_set_52 (by decide) ?_
          exact j_iret (pc := 54) hK hQ (nle rfl) (nle rfl) dX0_set_54 (fun h w => ⟨_, rfl, _, _, by first | exact oSet_2 (by decide) (fun z => absurd z (by decide)) hlo hhi c49 | exact oSet_4 (by decide) (by decide) hlo hhi c49, w⟩)
      · replace ew : what = (6 : Int32) := ew
        subst ew
        have hlo : setLo 6 = 1 := by decide
        have hhi : setHi 6 = 6 := by decide
        refine j_iload_n (pc := 0) hK dX0_set_0 rfl ?_
        refine j_i2l (pc := 1) hK dX0_set_1 ?_
        refine j_lconst (pc := 2) (v := 0) hK dX0_set_2 (by decide) ?_
        refine j_ldc2 (pc := 3) hK q180 dX0_set_3 ?_
        refine j_callS (pc := 6) hK hQ (c_Xin (l := 0) (u := 3) (by decide) (by decide)) cal_X0_in q106 dX0_set_6 rfl rfl (nle rfl) (nle rfl) (nle rfl) (nle rfl) (kr_i fun r6 => ?_) kx_i
        refine J.pre fun e6 => ?_
        subst e6
        refine j_if_eq_b (pc := 9) (tgt := 20) hK dX0_set_9 (by decide) (fun c9 => ?_) (fun c9 => absurd c9 (by decide))
        refine j_iload_n (pc := 20) hK dX0_set_20 rfl ?_
        refine j_i2l (pc := 21) hK dX0_set_21 ?_
        refine j_ldc2 (pc := 22) hK q194 dX0_set_22 ?_
        refine j_ldc2 (pc := 25) hK q195 dX0_set_25 ?_
        refine j_callS (pc := 28) hK hQ (c_Xin (l := 4) (u := 8) (by decide) (by decide)) cal_X0_in q106 dX0_set_28 rfl rfl (nle rfl) (nle rfl) (nle rfl) (nle rfl) (kr_i fun r28 => ?_) kx_i
        refine J.pre fun e28 => ?_
        subst e28
        refine j_if_eq_b (pc := 31) (tgt := 52) hK dX0_set_31 (by decide) (fun c31 => absurd (by decide) c31) (fun c31 => ?_)
        refine j_iload_n (pc := 34) hK dX0_set_34 rfl ?_
        refine j_i2l (pc := 35) hK dX0_set_35 ?_
        refine j_iload_n (pc := 36) hK dX0_set_36 rfl ?_
        refine j_callS (pc := 37) hK hQ (c_XlowOf _) cal_X0_lowOf q196 dX0_set_37 rfl rfl (nle rfl) (nle rfl) (nle rfl) (nle rfl) (kr_i fun r37 => ?_) kx_i
        refine J.pre fun e37 => ?_
        subst e37
        refine j_i2l (pc := 40) hK dX0_set_40 ?_
        refine j_iload_n (pc := 41) hK dX0_set_41 rfl ?_
        refine j_callS (pc := 42) hK hQ (c_XhighOf _) cal_X0_highOf q199 dX0_set_42 rfl rfl (nle rfl) (nle rfl) (nle rfl) (nle rfl) (kr_i fun r42 => ?_) kx_i
        refine J.pre fun e42 => ?_
        subst e42
        refine j_i2l (pc := 45) hK dX0_set_45 ?_
        refine j_callS (pc := 46) hK hQ (c_Xin (l := 1) (u := 6) (by decide) (by decide)) cal_X0_in q106 dX0_set_46 rfl rfl (nle rfl) (nle rfl) (nle rfl) (nle rfl) (kr_i fun r46 => ?_) kx_i
        refine J.pre fun e46 => ?_
        subst e46
        refine j_if_ne_b (pc := 49) (tgt := 55) hK dX0_set_49 (by decide) (fun c49 => ?_) (fun c49 => ?_)
        · refine j_aload_n (pc := 55) hK dX0_set_55 rfl ?_
          refine xi_getR (pc := 56) (k := 7) hK (fun _ w => w) (by decide) rfl q756 rfl dX0_set_56 ?_
          refine j_iload_n (pc := 59) hK dX0_set_59 rfl ?_
          refine j_iconst (pc := 60) (v := 4) hK dX0_set_60 (by decide) ?_
          refine j_isub (pc := 61) hK dX0_set_61 ?_
          refine xi_aldL (pc := 62) (i := 2) (n := 11) hK (fun _ w => w) (by decide) rfl (by decide) dX0_set_62 ?_
          refine j_ist4 (pc := 63) hK dX0_set_63 (by decide) rfl ?_
          refine j_aload_n (pc := 65) hK dX0_set_65 rfl ?_
          refine xi_getR (pc := 66) (k := 7) hK (fun _ w => w) (by decide) rfl q756 rfl dX0_set_66 ?_
          refine j_iload_n (pc := 69) hK dX0_set_69 rfl ?_
          refine j_iconst (pc := 70) (v := 4) hK dX0_set_70 (by decide) ?_
          refine j_isub (pc := 71) hK dX0_set_71 ?_
          refine j_iload_n (pc := 72) hK dX0_set_72 rfl ?_
          refine xi_astL (pc := 73) (i := 2) (n := 11) hK (by decide) rfl (by decide) (fun _ e => e) dX0_set_73 ?_
          refine j_iload (pc := 74) hK dX0_set_74 rfl ?_
          exact j_iret (pc := 76) hK hQ (nle rfl) (nle rfl) dX0_set_76 (fun h w => ⟨_, rfl, _, _, by first | exact oSet_2 (by decide) (fun z => absurd z (by decide)) hlo hhi c49 | exact oSet_4 (by decide) (by decide) hlo hhi c49, w⟩)
        · refine j_bipush (pc := 52) (v := (-2)) hK dX0_set_52 (by decide) ?_
          exact j_iret (pc := 54) hK hQ (nle rfl) (nle rfl) dX0_set_54 (fun h w => ⟨_, rfl, _, _, by first | exact oSet_2 (by decide) (fun z => absurd z (by decide)) hlo hhi c49 | exact oSet_4 (by decide) (by decide) hlo hhi c49, w⟩)
      · replace ew : what = (7 : Int32) := ew
        subst ew
        have hlo : setLo 7 = 1 := by decide
        have hhi : setHi 7 = 9 := by decide
        refine j_iload_n (pc := 0) hK dX0_set_0 rfl ?_
        refine j_i2l (pc := 1) hK dX0_set_1 ?_
        refine j_lconst (pc := 2) (v := 0) hK dX0_set_2 (by decide) ?_
        refine j_ldc2 (pc := 3) hK q180 dX0_set_3 ?_
        refine j_callS (pc := 6) hK hQ (c_Xin (l := 0) (u := 3) (by decide) (by decide)) cal_X0_in q106 dX0_set_6 rfl rfl (nle rfl) (nle rfl) (nle rfl) (nle rfl) (kr_i fun r6 => ?_) kx_i
        refine J.pre fun e6 => ?_
        subst e6
        refine j_if_eq_b (pc := 9) (tgt := 20) hK dX0_set_9 (by decide) (fun c9 => ?_) (fun c9 => absurd c9 (by decide))
        refine j_iload_n (pc := 20) hK dX0_set_20 rfl ?_
        refine j_i2l (pc := 21) hK dX0_set_21 ?_
        refine j_ldc2 (pc := 22) hK q194 dX0_set_22 ?_
        refine j_ldc2 (pc := 25) hK q195 dX0_set_25 ?_
        refine j_callS (pc := 28) hK hQ (c_Xin (l := 4) (u := 8) (by decide) (by decide)) cal_X0_in q106 dX0_set_28 rfl rfl (nle rfl) (nle rfl) (nle rfl) (nle rfl) (kr_i fun r28 => ?_) kx_i
        refine J.pre fun e28 => ?_
        subst e28
        refine j_if_eq_b (pc := 31) (tgt := 52) hK dX0_set_31 (by decide) (fun c31 => absurd (by decide) c31) (fun c31 => ?_)
        refine j_iload_n (pc := 34) hK dX0_set_34 rfl ?_
        refine j_i2l (pc := 35) hK dX0_set_35 ?_
        refine j_iload_n (pc := 36) hK dX0_set_36 rfl ?_
        refine j_callS (pc := 37) hK hQ (c_XlowOf _) cal_X0_lowOf q196 dX0_set_37 rfl rfl (nle rfl) (nle rfl) (nle rfl) (nle rfl) (kr_i fun r37 => ?_) kx_i
        refine J.pre fun e37 => ?_
        subst e37
        refine j_i2l (pc := 40) hK dX0_set_40 ?_
        refine j_iload_n (pc := 41) hK dX0_set_41 rfl ?_
        refine j_callS (pc := 42) hK hQ (c_XhighOf _) cal_X0_highOf q199 dX0_set_42 rfl rfl (nle rfl) (nle rfl) (nle rfl) (nle rfl) (kr_i fun r42 => ?_) kx_i
        refine J.pre fun e42 => ?_
        subst e42
        refine j_i2l (pc := 45) hK dX0_set_45 ?_
        refine j_callS (pc := 46) hK hQ (c_Xin (l := 1) (u := 9) (by decide) (by decide)) cal_X0_in q106 dX0_set_46 rfl rfl (nle rfl) (nle rfl) (nle rfl) (nle rfl) (kr_i fun r46 => ?_) kx_i
        refine J.pre fun e46 => ?_
        subst e46
        refine j_if_ne_b (pc := 49) (tgt := 55) hK dX0_set_49 (by decide) (fun c49 => ?_) (fun c49 => ?_)
        · refine j_aload_n (pc := 55) hK dX0_set_55 rfl ?_
          refine xi_getR (pc := 56) (k := 7) hK (fun _ w => w) (by decide) rfl q756 rfl dX0_set_56 ?_
          refine j_iload_n (pc := 59) hK dX0_set_59 rfl ?_
          refine j_iconst (pc := 60) (v := 4) hK dX0_set_60 (by decide) ?_
          refine j_isub (pc := 61) hK dX0_set_61 ?_
          refine xi_aldL (pc := 62) (i := 3) (n := 12) hK (fun _ w => w) (by decide) rfl (by decide) dX0_set_62 ?_
          refine j_ist4 (pc := 63) hK dX0_set_63 (by decide) rfl ?_
          refine j_aload_n (pc := 65) hK dX0_set_65 rfl ?_
          refine xi_getR (pc := 66) (k := 7) hK (fun _ w => w) (by decide) rfl q756 rfl dX0_set_66 ?_
          refine j_iload_n (pc := 69) hK dX0_set_69 rfl ?_
          refine j_iconst (pc := 70) (v := 4) hK dX0_set_70 (by decide) ?_
          refine j_isub (pc := 71) hK dX0_set_71 ?_
          refine j_iload_n (pc := 72) hK dX0_set_72 rfl ?_
          refine xi_astL (pc := 73) (i := 3) (n := 12) hK (by decide) rfl (by decide) (fun _ e => e) dX0_set_73 ?_
          refine j_iload (pc := 74) hK dX0_set_74 rfl ?_
          exact j_iret (pc := 76) hK hQ (nle rfl) (nle rfl) dX0_set_76 (fun h w => ⟨_, rfl, _, _, by first | exact oSet_2 (by decide) (fun z => absurd z (by decide)) hlo hhi c49 | exact oSet_4 (by decide) (by decide) hlo hhi c49, w⟩)
        · refine j_bipush (pc := 52) (v := (-2)) hK dX0_set_52 (by decide) ?_
          exact j_iret (pc := 54) hK hQ (nle rfl) (nle rfl) dX0_set_54 (fun h w => ⟨_, rfl, _, _, by first | exact oSet_2 (by decide) (fun z => absurd z (by decide)) hlo hhi c49 | exact oSet_4 (by decide) (by decide) hlo hhi c49, w⟩)
      · replace ew : what = (8 : Int32) := ew
        subst ew
        have hlo : setLo 8 = 0 := by decide
        have hhi : setHi 8 = 20 := by decide
        refine j_iload_n (pc := 0) hK dX0_set_0 rfl ?_
        refine j_i2l (pc := 1) hK dX0_set_1 ?_
        refine j_lconst (pc := 2) (v := 0) hK dX0_set_2 (by decide) ?_
        refine j_ldc2 (pc := 3) hK q180 dX0_set_3 ?_
        refine j_callS (pc := 6) hK hQ (c_Xin (l := 0) (u := 3) (by decide) (by decide)) cal_X0_in q106 dX0_set_6 rfl rfl (nle rfl) (nle rfl) (nle rfl) (nle rfl) (kr_i fun r6 => ?_) kx_i
        refine J.pre fun e6 => ?_
        subst e6
        refine j_if_eq_b (pc := 9) (tgt := 20) hK dX0_set_9 (by decide) (fun c9 => ?_) (fun c9 => absurd c9 (by decide))
        refine j_iload_n (pc := 20) hK dX0_set_20 rfl ?_
        refine j_i2l (pc := 21) hK dX0_set_21 ?_
        refine j_ldc2 (pc := 22) hK q194 dX0_set_22 ?_
        refine j_ldc2 (pc := 25) hK q195 dX0_set_25 ?_
        refine j_callS (pc := 28) hK hQ (c_Xin (l := 4) (u := 8) (by decide) (by decide)) cal_X0_in q106 dX0_set_28 rfl rfl (nle rfl) (nle rfl) (nle rfl) (nle rfl) (kr_i fun r28 => ?_) kx_i
        refine J.pre fun e28 => ?_
        subst e28
        refine j_if_eq_b (pc := 31) (tgt := 52) hK dX0_set_31 (by decide) (fun c31 => absurd (by decide) c31) (fun c31 => ?_)
        refine j_iload_n (pc := 34) hK dX0_set_34 rfl ?_
        refine j_i2l (pc := 35) hK dX0_set_35 ?_
        refine j_iload_n (pc := 36) hK dX0_set_36 rfl ?_
        refine j_callS (pc := 37) hK hQ (c_XlowOf _) cal_X0_lowOf q196 dX0_set_37 rfl rfl (nle rfl) (nle rfl) (nle rfl) (nle rfl) (kr_i fun r37 => ?_) kx_i
        refine J.pre fun e37 => ?_
        subst e37
        refine j_i2l (pc := 40) hK dX0_set_40 ?_
        refine j_iload_n (pc := 41) hK dX0_set_41 rfl ?_
        refine j_callS (pc := 42) hK hQ (c_XhighOf _) cal_X0_highOf q199 dX0_set_42 rfl rfl (nle rfl) (nle rfl) (nle rfl) (nle rfl) (kr_i fun r42 => ?_) kx_i
        refine J.pre fun e42 => ?_
        subst e42
        refine j_i2l (pc := 45) hK dX0_set_45 ?_
        refine j_callS (pc := 46) hK hQ (c_Xin (l := 0) (u := 20) (by decide) (by decide)) cal_X0_in q106 dX0_set_46 rfl rfl (nle rfl) (nle rfl) (nle rfl) (nle rfl) (kr_i fun r46 => ?_) kx_i
        refine J.pre fun e46 => ?_
        subst e46
        refine j_if_ne_b (pc := 49) (tgt := 55) hK dX0_set_49 (by decide) (fun c49 => ?_) (fun c49 => ?_)
        · refine j_aload_n (pc := 55) hK dX0_set_55 rfl ?_
          refine xi_getR (pc := 56) (k := 7) hK (fun _ w => w) (by decide) rfl q756 rfl dX0_set_56 ?_
          refine j_iload_n (pc := 59) hK dX0_set_59 rfl ?_
          refine j_iconst (pc := 60) (v := 4) hK dX0_set_60 (by decide) ?_
          refine j_isub (pc := 61) hK dX0_set_61 ?_
          refine xi_aldL (pc := 62) (i := 4) (n := 13) hK (fun _ w => w) (by decide) rfl (by decide) dX0_set_62 ?_
          refine j_ist4 (pc := 63) hK dX0_set_63 (by decide) rfl ?_
          refine j_aload_n (pc := 65) hK dX0_set_65 rfl ?_
          refine xi_getR (pc := 66) (k := 7) hK (fun _ w => w) (by decide) rfl q756 rfl dX0_set_66 ?_
          refine j_iload_n (pc := 69) hK dX0_set_69 rfl ?_
          refine j_iconst (pc := 70) (v := 4) hK dX0_set_70 (by decide) ?_
          refine j_isub (pc := 71) hK dX0_set_71 ?_
          refine j_iload_n (pc := 72) hK dX0_set_72 rfl ?_
          refine xi_astL (pc := 73) (i := 4) (n := 13) hK (by decide) rfl (by decide) (fun _ e => e) dX0_set_73 ?_
          refine j_iload (pc := 74) hK dX0_set_74 rfl ?_
          exact j_iret (pc := 76) hK hQ (nle rfl) (nle rfl) dX0_set_76 (fun h w => ⟨_, rfl, _, _, by first | exact oSet_2 (by decide) (fun z => absurd z (by decide)) hlo hhi c49 | exact oSet_4 (by decide) (by decide) hlo hhi c49, w⟩)
        · refine j_bipush (pc := 52) (v := (-2)) hK dX0_set_52 (by decide) ?_
          exact j_iret (pc := 54) hK hQ (nle rfl) (nle rfl) dX0_set_54 (fun h w => ⟨_, rfl, _, _, by first | exact oSet_2 (by decide) (fun z => absurd z (by decide)) hlo hhi c49 | exact oSet_4 (by decide) (by decide) hlo hhi c49, w⟩)
  · skip
    refine Ct.of (cc := cX0_set) (nL := 5) (ret := (some .int)) (ls := [some (.ref (L 35)), some (.int what), some (.int b), some (.int v), none]) rfl rfl rfl (nle rfl) ?_
    intro K hK hQ
    have h3 : ¬ (0 ≤ what ∧ what ≤ 3) := fun z => hw ⟨z.1, Int32.le_trans z.2 (by decide)⟩
    have h8 : ¬ (4 ≤ what ∧ what ≤ 8) := fun z => hw ⟨Int32.le_trans (by decide) z.1, z.2⟩
    refine j_iload_n (pc := 0) hK dX0_set_0 rfl ?_
    refine j_i2l (pc := 1) hK dX0_set_1 ?_
    refine j_lconst (pc := 2) (v := 0) hK dX0_set_2 (by decide) ?_
    refine j_ldc2 (pc := 3) hK q180 dX0_set_3 ?_
    refine j_callS (pc := 6) hK hQ (c_Xin (l := 0) (u := 3) (by decide) (by decide)) cal_X0_in q106 dX0_set_6 rfl rfl (nle rfl) (nle rfl) (nle rfl) (nle rfl) (kr_i fun r6 => ?_) kx_i
    refine J.pre fun e6 => ?_
    subst e6
    refine j_if_eq_b (pc := 9) (tgt := 20) hK dX0_set_9 (by decide) (fun c9 => ?_) (fun c9 => absurd c9 h3)
    refine j_iload_n (pc := 20) hK dX0_set_20 rfl ?_
    refine j_i2l (pc := 21) hK dX0_set_21 ?_
    refine j_ldc2 (pc := 22) hK q194 dX0_set_22 ?_
    refine j_ldc2 (pc := 25) hK q195 dX0_set_25 ?_
    refine j_callS (pc := 28) hK hQ (c_Xin (l := 4) (u := 8) (by decide) (by decide)) cal_X0_in q106 dX0_set_28 rfl rfl (nle rfl) (nle rfl) (nle rfl) (nle rfl) (kr_i fun r28 => ?_) kx_i
    refine J.pre fun e28 => ?_
    subst e28
    refine j_if_eq_b (pc := 31) (tgt := 52) hK dX0_set_31 (by decide) (fun c31 => ?_) (fun c31 => absurd c31 h8)
    refine j_bipush (pc := 52) (v := (-2)) hK dX0_set_52 (by decide) ?_
    exact j_iret (pc := 54) hK hQ (nle rfl) (nle rfl) dX0_set_54 (fun h w => ⟨_, rfl, _, _, by unfold oSet; rw [if_pos hw], w⟩)
end X60
