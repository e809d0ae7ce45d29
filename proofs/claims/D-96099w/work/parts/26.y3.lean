/-! boat, set, feed, force, thoseWho, count -/
set_option maxRecDepth 100000
abbrev R3 : Type := Int32 × (Nat → Int32) × (Nat → Int32 → Int32)
section S3
variable (f : Nat → Int32) (g : Nat → Int32 → Int32)
def oBoat (kind what time : Int32) : R3 :=
  if ¬ (0 ≤ kind ∧ kind ≤ 5) then (-2, f, g) else if ¬ (0 ≤ what ∧ what ≤ 4709) then (-2, f, g) else if 9 < what % 100 then (-2, f, g) else if ¬ (5000 ≤ time ∧ time ≤ 240999) then (-2, f, g) else if f 0 = 7 then (-4, f, g)
  else (f 0, upd f 0 (f 0 + 1), ug (ug (ug (ug (ug (ug (ug g 1 (f 0) kind) 3 (f 0) (what / 100)) 2 (f 0) (what % 100)) 5 (f 0) (time / 1000)) 4 (f 0) (time % 1000)) 6 (f 0) 0) 7 (f 0) (-1))
/-- set: what of a boat lies in which array; what of the lake in which field; the bounds -/
def setA (what : Int32) : Nat := if what = 0 then 3 else if what = 1 then 4 else if what = 2 then 5 else 2
def setF (what : Int32) : Nat := if what = 4 then 8 else if what = 5 then 9 else if what = 6 then 11 else if what = 7 then 12 else 13
def setLo (what : Int32) : Int32 := if what = 2 then 5 else if what = 6 ∨ what = 7 then 1 else 0
def setHi (what : Int32) : Int32 := if what = 0 ∨ what = 4 then 47 else if what = 1 then 999 else if what = 2 then 240 else if what = 6 then 6 else if what = 8 then 20 else 9
def oSet (what bo v : Int32) : R3 :=
  if ¬ (0 ≤ what ∧ what ≤ 8) then (-2, f, g) else if what < 4 ∧ ¬ (0 ≤ bo ∧ bo ≤ f 0 - 1) then (-2, f, g) else if ¬ (setLo what ≤ v ∧ v ≤ setHi what) then (-2, f, g)
  else if what < 4 then (g (setA what) bo, f, ug g (setA what) bo v) else (f (setF what), upd f (setF what) v, g)
def oFeed (c : Int32) : R3 := if ¬ (0 ≤ c ∧ c ≤ 255) then (-2, f, g) else if f 15 = 160 then (-4, f, g) else (f 15 + 1, upd f 15 (f 15 + 1), ug g 16 (f 15) c)
def oForce (t : Int32) : R3 := if ¬ (0 ≤ t ∧ t ≤ f 17 - 1) then (-2, f, g) else (f 18, upd f 18 t, g)
/-- how many of the first n boats are so -/
def cntS (s : Int32) : Nat → Int32
  | 0 => 0
  | n + 1 => if g 6 (nI n) = s then cntS s n + 1 else cntS s n
end S3
section Y3
variable {Γ : Gam} {A : Nat → Prop} {L : Nat → Nat} {f : Nat → Int32} {g : Nat → Int32 → Int32} {T : TX} {P : PH → Prop}
theorem bo_in {bo : Int32} (h : 0 ≤ bo ∧ bo ≤ f 0 - 1) (h0 : 0 ≤ f 0) (h7 : f 0 ≤ 7) : vp_in bo 7 := by
  have e : nI 7 = (7 : Int32) := by decide
  exact inb_of h.1 (by rw [e]; grind) (by decide)
def YO (Γ : Gam) (L : Nat → Nat) (T : TX) (o : R3) : Int32 → PH → Prop := fun r h => ∃ f' g', o = (r, f', g') ∧ YI Γ L f' g' T h
theorem c_Yboat (kind what time : Int32) (h0 : 0 ≤ f 0) (h7 : f 0 ≤ 7) : Ct Γ A yX8_boat wX8_boat 2 0 0 [.ref (L 40), .int kind, .int what, .int time] (YI Γ L f g T) (RI (YO Γ L T (oBoat f g kind what time))) := by
  refine Ct.of (cc := cX8_boat) (nL := 4) (ret := (some .int)) (ls := [some (.ref (L 40)), some (.int kind), some (.int what), some (.int time)]) rfl rfl rfl (nle rfl) ?_
  intro K hK hQ
  refine j_iload_n (pc := 0) hK dX8_boat_0 rfl ?_
  refine j_iconst (pc := 1) (v := 0) hK dX8_boat_1 (by decide) ?_
  refine j_iconst (pc := 2) (v := 5) hK dX8_boat_2 (by decide) ?_
  refine j_callS (pc := 3) hK hQ (c_Ywithin _ _ _) cal_X8_within q1167 dX8_boat_3 rfl rfl (nle rfl) (nle rfl) (nle rfl) (nle rfl) (kr_i fun r3 => ?_) kx_i
  refine J.pre fun e3 => ?_
  subst e3
  refine j_if_eq_b (pc := 6) (tgt := 41) hK dX8_boat_6 (by decide) (fun c6 => ?_) (fun c6 => ?_)
  · refine j_bipush (pc := 41) (v := (-2)) hK dX8_boat_41 (by decide) ?_
    exact j_iret (pc := 43) hK hQ (nle rfl) (nle rfl) dX8_boat_43 (fun h w => ⟨_, rfl, _, _, by simp [oBoat, *], w⟩)
  · refine j_iload_n (pc := 9) hK dX8_boat_9 rfl ?_
    refine j_iconst (pc := 10) (v := 0) hK dX8_boat_10 (by decide) ?_
    refine j_sipush (pc := 11) (v := 4709) hK dX8_boat_11 (by decide) ?_
    refine j_callS (pc := 14) hK hQ (c_Ywithin _ _ _) cal_X8_within q1167 dX8_boat_14 rfl rfl (nle rfl) (nle rfl) (nle rfl) (nle rfl) (kr_i fun r14 => ?_) kx_i
    refine J.pre fun e14 => ?_
    subst e14
    refine j_if_eq_b (pc := 17) (tgt := 41) hK dX8_boat_17 (by decide) (fun c17 => ?_) (fun c17 => ?_)
    · refine j_bipush (pc := 41) (v := (-2)) hK dX8_boat_41 (by decide) ?_
      exact j_iret (pc := 43) hK hQ (nle rfl) (nle rfl) dX8_boat_43 (fun h w => ⟨_, rfl, _, _, by simp [oBoat, *], w⟩)
    · refine j_iload_n (pc := 20) hK dX8_boat_20 rfl ?_
      refine j_bipush (pc := 21) (v := 100) hK dX8_boat_21 (by decide) ?_
      refine j_irem (pc := 23) hK dX8_boat_23 (by decide) ?_
      refine j_bipush (pc := 24) (v := 9) hK dX8_boat_24 (by decide) ?_
      refine j_icmp_gt (pc := 26) (tgt := 41) hK dX8_boat_26 (by decide) (fun c26 => ?_) (fun c26 => ?_)
      · refine j_bipush (pc := 41) (v := (-2)) hK dX8_boat_41 (by decide) ?_
        exact j_iret (pc := 43) hK hQ (nle rfl) (nle rfl) dX8_boat_43 (fun h w => ⟨_, rfl, _, _, by simp [oBoat, *], w⟩)
      · refine j_iload_n (pc := 29) hK dX8_boat_29 rfl ?_
        refine j_sipush (pc := 30) (v := 5000) hK dX8_boat_30 (by decide) ?_
        refine j_ldc (pc := 33) hK q1365 dX8_boat_33 ?_
        refine j_callS (pc := 35) hK hQ (c_Ywithin _ _ _) cal_X8_within q1167 dX8_boat_35 rfl rfl (nle rfl) (nle rfl) (nle rfl) (nle rfl) (kr_i fun r35 => ?_) kx_i
        refine J.pre fun e35 => ?_
        subst e35
        refine j_if_ne_b (pc := 38) (tgt := 44) hK dX8_boat_38 (by decide) (fun c38 => ?_) (fun c38 => ?_)
        · refine j_aload_n (pc := 44) hK dX8_boat_44 rfl ?_
          refine yi_getI (pc := 45) (k := 0) hK (by decide) rfl rfl q1240 rfl dX8_boat_45 ?_
          refine j_bipush (pc := 48) (v := 7) hK dX8_boat_48 (by decide) ?_
          refine j_icmp_ne (pc := 50) (tgt := 56) hK dX8_boat_50 (by decide) (fun c50 => ?_) (fun c50 => ?_)
          · have hb : vp_in (f 0) 7 := inb_of h0 (by rw [show nI 7 = (7 : Int32) by decide]; grind) (by decide)
            refine j_aload_n (pc := 56) hK dX8_boat_56 rfl ?_
            refine yi_getR (pc := 57) (k := 1) hK (by decide) rfl q1241 rfl dX8_boat_57 ?_
            refine j_aload_n (pc := 60) hK dX8_boat_60 rfl ?_
            refine yi_getI (pc := 61) (k := 0) hK (by decide) rfl rfl q1240 rfl dX8_boat_61 ?_
            refine j_iload_n (pc := 64) hK dX8_boat_64 rfl ?_
            refine yi_ast (pc := 65) (k := 1) hK rfl rfl (by decide) (by decide) (by first | assumption | exact vp_in_c (by decide)) dX8_boat_65 ?_
            refine j_aload_n (pc := 66) hK dX8_boat_66 rfl ?_
            refine yi_getR (pc := 67) (k := 3) hK (by decide) rfl q1243 rfl dX8_boat_67 ?_
            refine j_aload_n (pc := 70) hK dX8_boat_70 rfl ?_
            refine yi_getI (pc := 71) (k := 0) hK (by decide) rfl rfl q1240 rfl dX8_boat_71 ?_
            refine j_iload_n (pc := 74) hK dX8_boat_74 rfl ?_
            refine j_bipush (pc := 75) (v := 100) hK dX8_boat_75 (by decide) ?_
            refine j_idiv (pc := 77) hK dX8_boat_77 (by decide) ?_
            refine yi_ast (pc := 78) (k := 3) hK rfl rfl (by decide) (by decide) (by first | assumption | exact vp_in_c (by decide)) dX8_boat_78 ?_
            refine j_aload_n (pc := 79) hK dX8_boat_79 rfl ?_
            refine yi_getR (pc := 80) (k := 2) hK (by decide) rfl q1242 rfl dX8_boat_80 ?_
            refine j_aload_n (pc := 83) hK dX8_boat_83 rfl ?_
            refine yi_getI (pc := 84) (k := 0) hK (by decide) rfl rfl q1240 rfl dX8_boat_84 ?_
            refine j_iload_n (pc := 87) hK dX8_boat_87 rfl ?_
            refine j_bipush (pc := 88) (v := 100) hK dX8_boat_88 (by decide) ?_
            refine j_irem (pc := 90) hK dX8_boat_90 (by decide) ?_
            refine yi_ast (pc := 91) (k := 2) hK rfl rfl (by decide) (by decide) (by first | assumption | exact vp_in_c (by decide)) dX8_boat_91 ?_
            refine j_aload_n (pc := 92) hK dX8_boat_92 rfl ?_
            refine yi_getR (pc := 93) (k := 5) hK (by decide) rfl q1245 rfl dX8_boat_93 ?_
            refine j_aload_n (pc := 96) hK dX8_boat_96 rfl ?_
            refine yi_getI (pc := 97) (k := 0) hK (by decide) rfl rfl q1240 rfl dX8_boat_97 ?_
            refine j_iload_n (pc := 100) hK dX8_boat_100 rfl ?_
            refine j_sipush (pc := 101) (v := 1000) hK dX8_boat_101 (by decide) ?_
            refine j_idiv (pc := 104) hK dX8_boat_104 (by decide) ?_
            refine yi_ast (pc := 105) (k := 5) hK rfl rfl (by decide) (by decide) (by first | assumption | exact vp_in_c (by decide)) dX8_boat_105 ?_
            refine j_aload_n (pc := 106) hK dX8_boat_106 rfl ?_
            refine yi_getR (pc := 107) (k := 4) hK (by decide) rfl q1244 rfl dX8_boat_107 ?_
            refine j_aload_n (pc := 110) hK dX8_boat_110 rfl ?_
            refine yi_getI (pc := 111) (k := 0) hK (by decide) rfl rfl q1240 rfl dX8_boat_111 ?_
            refine j_iload_n (pc := 114) hK dX8_boat_114 rfl ?_
            refine j_sipush (pc := 115) (v := 1000) hK dX8_boat_115 (by decide) ?_
            refine j_irem (pc := 118) hK dX8_boat_118 (by decide) ?_
            refine yi_ast (pc := 119) (k := 4) hK rfl rfl (by decide) (by decide) (by first | assumption | exact vp_in_c (by decide)) dX8_boat_119 ?_
            refine j_aload_n (pc := 120) hK dX8_boat_120 rfl ?_
            refine yi_getR (pc := 121) (k := 6) hK (by decide) rfl q1246 rfl dX8_boat_121 ?_
            refine j_aload_n (pc := 124) hK dX8_boat_124 rfl ?_
            refine yi_getI (pc := 125) (k := 0) hK (by decide) rfl rfl q1240 rfl dX8_boat_125 ?_
            refine j_iconst (pc := 128) (v := 0) hK dX8_boat_128 (by decide) ?_
            refine yi_ast (pc := 129) (k := 6) hK rfl rfl (by decide) (by decide) (by first | assumption | exact vp_in_c (by decide)) dX8_boat_129 ?_
            refine j_aload_n (pc := 130) hK dX8_boat_130 rfl ?_
            refine yi_getR (pc := 131) (k := 7) hK (by decide) rfl q1247 rfl dX8_boat_131 ?_
            refine j_aload_n (pc := 134) hK dX8_boat_134 rfl ?_
            refine yi_getI (pc := 135) (k := 0) hK (by decide) rfl rfl q1240 rfl dX8_boat_135 ?_
            refine j_iconst (pc := 138) (v := (-1)) hK dX8_boat_138 (by decide) ?_
            refine yi_ast (pc := 139) (k := 7) hK rfl rfl (by decide) (by decide) (by first | assumption | exact vp_in_c (by decide)) dX8_boat_139 ?_
            refine j_aload_n (pc := 140) hK dX8_boat_140 rfl ?_
            refine j_dup (pc := 141) hK dX8_boat_141 rfl ?_
            refine yi_getI (pc := 142) (k := 0) hK (by decide) rfl rfl q1240 rfl dX8_boat_142 ?_
            refine j_dup_x1 (pc := 145) hK dX8_boat_145 rfl rfl ?_
            refine j_iconst (pc := 146) (v := 1) hK dX8_boat_146 (by decide) ?_
            refine j_iadd (pc := 147) hK dX8_boat_147 ?_
            refine yi_putI (pc := 148) (k := 0) hK (by decide) rfl rfl (by decide) q1240 rfl rfl rfl rfl dX8_boat_148 ?_
            exact j_iret (pc := 151) hK hQ (nle rfl) (nle rfl) dX8_boat_151 (fun h w => ⟨_, rfl, _, _, by simp [oBoat, *], w⟩)
          · refine j_bipush (pc := 53) (v := (-4)) hK dX8_boat_53 (by decide) ?_
            exact j_iret (pc := 55) hK hQ (nle rfl) (nle rfl) dX8_boat_55 (fun h w => ⟨_, rfl, _, _, by simp [oBoat, *], w⟩)
        · refine j_bipush (pc := 41) (v := (-2)) hK dX8_boat_41 (by decide) ?_
          exact j_iret (pc := 43) hK hQ (nle rfl) (nle rfl) dX8_boat_43 (fun h w => ⟨_, rfl, _, _, by simp [oBoat, *], w⟩)
theorem c_Yset (what bo v : Int32) (h0 : 0 ≤ f 0) (h7 : f 0 ≤ 7) : Ct Γ A yX8_set wX8_set 3 0 0 [.ref (L 40), .int what, .int bo, .int v] (YI Γ L f g T) (RI (YO Γ L T (oSet f g what bo v))) := by
  refine Ct.of (cc := cX8_set) (nL := 7) (ret := (some .int)) (ls := [some (.ref (L 40)), some (.int what), some (.int bo), some (.int v), none, none, none]) rfl rfl rfl (nle rfl) ?_
  intro K hK hQ
  have hcase : what = 0 ∨ what = 1 ∨ what = 2 ∨ what = 3 ∨ what = 4 ∨ what = 5 ∨ what = 6 ∨ what = 7 ∨ what = 8 ∨ ¬ (0 ≤ what ∧ what ≤ 8) := by grind
  rcases hcase with rfl | rfl | rfl | rfl | rfl | rfl | rfl | rfl | rfl | hw
  · skip
    refine j_iload_n (pc := 0) hK dX8_set_0 rfl ?_
    refine j_iconst (pc := 1) (v := 2) hK dX8_set_1 (by decide) ?_
    refine j_icmp_ne (pc := 2) (tgt := 9) hK dX8_set_2 (by decide) (fun c2 => ?_) (fun c2 => absurd c2 (by decide))
    refine j_iload_n (pc := 9) hK dX8_set_9 rfl ?_
    refine j_bipush (pc := 10) (v := 6) hK dX8_set_10 (by decide) ?_
    refine j_icmp_eq (pc := 12) (tgt := 21) hK dX8_set_12 (by decide) (fun c12 => absurd c12 (by decide)) (fun c12 => ?_)
    refine j_iload_n (pc := 15) hK dX8_set_15 rfl ?_
    refine j_bipush (pc := 16) (v := 7) hK dX8_set_16 (by decide) ?_
    refine j_icmp_ne (pc := 18) (tgt := 25) hK dX8_set_18 (by decide) (fun c18 => ?_) (fun c18 => absurd c18 (by decide))
    refine j_iconst (pc := 25) (v := 0) hK dX8_set_25 (by decide) ?_
    refine j_ist4 (pc := 26) hK dX8_set_26 (by decide) rfl ?_
    refine j_iload_n (pc := 28) hK dX8_set_28 rfl ?_
    refine j_if_eq (pc := 29) (tgt := 37) hK dX8_set_29 (by decide) (fun c29 => ?_) (fun c29 => absurd (by decide) c29)
    refine j_bipush (pc := 37) (v := 47) hK dX8_set_37 (by decide) ?_
    refine j_goto (pc := 39) (tgt := 88) hK dX8_set_39 (by decide) ?_
    refine j_ist5 (pc := 88) hK dX8_set_88 (by decide) rfl ?_
    refine j_iload_n (pc := 90) hK dX8_set_90 rfl ?_
    refine j_iconst (pc := 91) (v := 0) hK dX8_set_91 (by decide) ?_
    refine j_bipush (pc := 92) (v := 8) hK dX8_set_92 (by decide) ?_
    refine j_callS (pc := 94) hK hQ (c_Ywithin _ _ _) cal_X8_within q1167 dX8_set_94 rfl rfl (nle rfl) (nle rfl) (nle rfl) (nle rfl) (kr_i fun r94 => ?_) kx_i
    refine J.pre fun e94 => ?_
    subst e94
    refine j_if_eq_b (pc := 97) (tgt := 124) hK dX8_set_97 (by decide) (fun c97 => ?_) (fun c97 => ?_)
    · refine j_bipush (pc := 124) (v := (-2)) hK dX8_set_124 (by decide) ?_
      exact j_iret (pc := 126) hK hQ (nle rfl) (nle rfl) dX8_set_126 (fun h w => ⟨_, rfl, _, _, by clear hK hQ; unfold oSet setLo setHi setA setF; grind, w⟩)
    · refine j_iload_n (pc := 100) hK dX8_set_100 rfl ?_
      refine j_iconst (pc := 101) (v := 4) hK dX8_set_101 (by decide) ?_
      refine j_icmp_ge (pc := 102) (tgt := 113) hK dX8_set_102 (by decide) (fun c102 => absurd c102 (by decide)) (fun c102 => ?_)
      refine j_aload_n (pc := 105) hK dX8_set_105 rfl ?_
      refine j_iload_n (pc := 106) hK dX8_set_106 rfl ?_
      refine j_callV (pc := 107) hK hQ (c_YisBoat _) cal_X8_isBoat yi_isC q1370 dX8_set_107 rfl rfl (nle rfl) (nle rfl) (nle rfl) (nle rfl) (kr_i fun r107 => ?_) kx_i
      refine J.pre fun e107 => ?_
      subst e107
      refine j_if_eq_b (pc := 110) (tgt := 124) hK dX8_set_110 (by decide) (fun c110 => ?_) (fun c110 => ?_)
      · refine j_bipush (pc := 124) (v := (-2)) hK dX8_set_124 (by decide) ?_
        exact j_iret (pc := 126) hK hQ (nle rfl) (nle rfl) dX8_set_126 (fun h w => ⟨_, rfl, _, _, by clear hK hQ; unfold oSet setLo setHi setA setF; grind, w⟩)
      · try have hb := bo_in (by assumption) h0 h7
        refine j_iload_n (pc := 113) hK dX8_set_113 rfl ?_
        refine j_iload (pc := 114) hK dX8_set_114 rfl ?_
        refine j_iload (pc := 116) hK dX8_set_116 rfl ?_
        refine j_callS (pc := 118) hK hQ (c_Ywithin _ _ _) cal_X8_within q1167 dX8_set_118 rfl rfl (nle rfl) (nle rfl) (nle rfl) (nle rfl) (kr_i fun r118 => ?_) kx_i
        refine J.pre fun e118 => ?_
        subst e118
        refine j_if_ne_b (pc := 121) (tgt := 127) hK dX8_set_121 (by decide) (fun c121 => ?_) (fun c121 => ?_)
        · refine j_iload_n (pc := 127) hK dX8_set_127 rfl ?_
          refine j_tableIn (pc := 128) (tgt := 176) hK dX8_set_128 (by decide) (by decide) rfl (by decide) ?_
          refine j_aload_n (pc := 176) hK dX8_set_176 rfl ?_
          refine yi_getR (pc := 177) (k := 3) hK (by decide) rfl q1243 rfl dX8_set_177 ?_
          refine j_iload_n (pc := 180) hK dX8_set_180 rfl ?_
          refine yi_ald (pc := 181) (k := 3) hK rfl rfl (by first | assumption | exact vp_in_c (by decide)) dX8_set_181 ?_
          refine j_ist6 (pc := 182) hK dX8_set_182 (by decide) rfl ?_
          refine j_aload_n (pc := 184) hK dX8_set_184 rfl ?_
          refine yi_getR (pc := 185) (k := 3) hK (by decide) rfl q1243 rfl dX8_set_185 ?_
          refine j_iload_n (pc := 188) hK dX8_set_188 rfl ?_
          refine j_iload_n (pc := 189) hK dX8_set_189 rfl ?_
          refine yi_ast (pc := 190) (k := 3) hK rfl rfl (by decide) (by decide) (by first | assumption | exact vp_in_c (by decide)) dX8_set_190 ?_
          refine j_iload (pc := 191) hK dX8_set_191 rfl ?_
          exact j_iret (pc := 193) hK hQ (nle rfl) (nle rfl) dX8_set_193 (fun h w => ⟨_, rfl, _, _, by clear hK hQ; unfold oSet setLo setHi setA setF; grind, w⟩)
        · refine j_bipush (pc := 124) (v := (-2)) hK dX8_set_124 (by decide) ?_
          exact j_iret (pc := 126) hK hQ (nle rfl) (nle rfl) dX8_set_126 (fun h w => ⟨_, rfl, _, _, by clear hK hQ; unfold oSet setLo setHi setA setF; grind, w⟩)
  · skip
    refine j_iload_n (pc := 0) hK dX8_set_0 rfl ?_
    refine j_iconst (pc := 1) (v := 2) hK dX8_set_1 (by decide) ?_
    refine j_icmp_ne (pc := 2) (tgt := 9) hK dX8_set_2 (by decide) (fun c2 => ?_) (fun c2 => absurd c2 (by decide))
    refine j_iload_n (pc := 9) hK dX8_set_9 rfl ?_
    refine j_bipush (pc := 10) (v := 6) hK dX8_set_10 (by decide) ?_
    refine j_icmp_eq (pc := 12) (tgt := 21) hK dX8_set_12 (by decide) (fun c12 => absurd c12 (by decide)) (fun c12 => ?_)
    refine j_iload_n (pc := 15) hK dX8_set_15 rfl ?_
    refine j_bipush (pc := 16) (v := 7) hK dX8_set_16 (by decide) ?_
    refine j_icmp_ne (pc := 18) (tgt := 25) hK dX8_set_18 (by decide) (fun c18 => ?_) (fun c18 => absurd c18 (by decide))
    refine j_iconst (pc := 25) (v := 0) hK dX8_set_25 (by decide) ?_
    refine j_ist4 (pc := 26) hK dX8_set_26 (by decide) rfl ?_
    refine j_iload_n (pc := 28) hK dX8_set_28 rfl ?_
    refine j_if_eq (pc := 29) (tgt := 37) hK dX8_set_29 (by decide) (fun c29 => absurd c29 (by decide)) (fun c29 => ?_)
    refine j_iload_n (pc := 32) hK dX8_set_32 rfl ?_
    refine j_iconst (pc := 33) (v := 4) hK dX8_set_33 (by decide) ?_
    refine j_icmp_ne (pc := 34) (tgt := 42) hK dX8_set_34 (by decide) (fun c34 => ?_) (fun c34 => absurd c34 (by decide))
    refine j_iload_n (pc := 42) hK dX8_set_42 rfl ?_
    refine j_iconst (pc := 43) (v := 1) hK dX8_set_43 (by decide) ?_
    refine j_icmp_ne (pc := 44) (tgt := 53) hK dX8_set_44 (by decide) (fun c44 => absurd (by decide) c44) (fun c44 => ?_)
    refine j_sipush (pc := 47) (v := 999) hK dX8_set_47 (by decide) ?_
    refine j_goto (pc := 50) (tgt := 88) hK dX8_set_50 (by decide) ?_
    refine j_ist5 (pc := 88) hK dX8_set_88 (by decide) rfl ?_
    refine j_iload_n (pc := 90) hK dX8_set_90 rfl ?_
    refine j_iconst (pc := 91) (v := 0) hK dX8_set_91 (by decide) ?_
    refine j_bipush (pc := 92) (v := 8) hK dX8_set_92 (by decide) ?_
    refine j_callS (pc := 94) hK hQ (c_Ywithin _ _ _) cal_X8_within q1167 dX8_set_94 rfl rfl (nle rfl) (nle rfl) (nle rfl) (nle rfl) (kr_i fun r94 => ?_) kx_i
    refine J.pre fun e94 => ?_
    subst e94
    refine j_if_eq_b (pc := 97) (tgt := 124) hK dX8_set_97 (by decide) (fun c97 => ?_) (fun c97 => ?_)
    · refine j_bipush (pc := 124) (v := (-2)) hK dX8_set_124 (by decide) ?_
      exact j_iret (pc := 126) hK hQ (nle rfl) (nle rfl) dX8_set_126 (fun h w => ⟨_, rfl, _, _, by clear hK hQ; unfold oSet setLo setHi setA setF; grind, w⟩)
    · refine j_iload_n (pc := 100) hK dX8_set_100 rfl ?_
      refine j_iconst (pc := 101) (v := 4) hK dX8_set_101 (by decide) ?_
      refine j_icmp_ge (pc := 102) (tgt := 113) hK dX8_set_102 (by decide) (fun c102 => absurd c102 (by decide)) (fun c102 => ?_)
      refine j_aload_n (pc := 105) hK dX8_set_105 rfl ?_
      refine j_iload_n (pc := 106) hK dX8_set_106 rfl ?_
      refine j_callV (pc := 107) hK hQ (c_YisBoat _) cal_X8_isBoat yi_isC q1370 dX8_set_107 rfl rfl (nle rfl) (nle rfl) (nle rfl) (nle rfl) (kr_i fun r107 => ?_) kx_i
      refine J.pre fun e107 => ?_
      subst e107
      refine j_if_eq_b (pc := 110) (tgt := 124) hK dX8_set_110 (by decide) (fun c110 => ?_) (fun c110 => ?_)
      · refine j_bipush (pc := 124) (v := (-2)) hK dX8_set_124 (by decide) ?_
        exact j_iret (pc := 126) hK hQ (nle rfl) (nle rfl) dX8_set_126 (fun h w => ⟨_, rfl, _, _, by clear hK hQ; unfold oSet setLo setHi setA setF; grind, w⟩)
      · try have hb := bo_in (by assumption) h0 h7
        refine j_iload_n (pc := 113) hK dX8_set_113 rfl ?_
        refine j_iload (pc := 114) hK dX8_set_114 rfl ?_
        refine j_iload (pc := 116) hK dX8_set_116 rfl ?_
        refine j_callS (pc := 118) hK hQ (c_Ywithin _ _ _) cal_X8_within q1167 dX8_set_118 rfl rfl (nle rfl) (nle rfl) (nle rfl) (nle rfl) (kr_i fun r118 => ?_) kx_i
        refine J.pre fun e118 => ?_
        subst e118
        refine j_if_ne_b (pc := 121) (tgt := 127) hK dX8_set_121 (by decide) (fun c121 => ?_) (fun c121 => ?_)
        · refine j_iload_n (pc := 127) hK dX8_set_127 rfl ?_
          refine j_tableIn (pc := 128) (tgt := 194) hK dX8_set_128 (by decide) (by decide) rfl (by decide) ?_
          refine j_aload_n (pc := 194) hK dX8_set_194 rfl ?_
          refine yi_getR (pc := 195) (k := 4) hK (by decide) rfl q1244 rfl dX8_set_195 ?_
          refine j_iload_n (pc := 198) hK dX8_set_198 rfl ?_
          refine yi_ald (pc := 199) (k := 4) hK rfl rfl (by first | assumption | exact vp_in_c (by decide)) dX8_set_199 ?_
          refine j_ist6 (pc := 200) hK dX8_set_200 (by decide) rfl ?_
          refine j_aload_n (pc := 202) hK dX8_set_202 rfl ?_
          refine yi_getR (pc := 203) (k := 4) hK (by decide) rfl q1244 rfl dX8_set_203 ?_
          refine j_iload_n (pc := 206) hK dX8_set_206 rfl ?_
          refine j_iload_n (pc := 207) hK dX8_set_207 rfl ?_
          refine yi_ast (pc := 208) (k := 4) hK rfl rfl (by decide) (by decide) (by first | assumption | exact vp_in_c (by decide)) dX8_set_208 ?_
          refine j_iload (pc := 209) hK dX8_set_209 rfl ?_
          exact j_iret (pc := 211) hK hQ (nle rfl) (nle rfl) dX8_set_211 (fun h w => ⟨_, rfl, _, _, by clear hK hQ; unfold oSet setLo setHi setA setF; grind, w⟩)
        · refine j_bipush (pc := 124) (v := (-2)) hK dX8_set_124 (by decide) ?_
          exact j_iret (pc := 126) hK hQ (nle rfl) (nle rfl) dX8_set_126 (fun h w => ⟨_, rfl, _, _, by clear hK hQ; unfold oSet setLo setHi setA setF; grind, w⟩)
  · skip
    refine j_iload_n (pc := 0) hK dX8_set_0 rfl ?_
    refine j_iconst (pc := 1) (v := 2) hK dX8_set_1 (by decide) ?_
    refine j_icmp_ne (pc := 2) (tgt := 9) hK dX8_set_2 (by decide) (fun c2 => absurd (by decide) c2) (fun c2 => ?_)
    refine j_iconst (pc := 5) (v := 5) hK dX8_set_5 (by decide) ?_
    refine j_goto (pc := 6) (tgt := 26) hK dX8_set_6 (by decide) ?_
    refine j_ist4 (pc := 26) hK dX8_set_26 (by decide) rfl ?_
    refine j_iload_n (pc := 28) hK dX8_set_28 rfl ?_
    refine j_if_eq (pc := 29) (tgt := 37) hK dX8_set_29 (by decide) (fun c29 => absurd c29 (by decide)) (fun c29 => ?_)
    refine j_iload_n (pc := 32) hK dX8_set_32 rfl ?_
    refine j_iconst (pc := 33) (v := 4) hK dX8_set_33 (by decide) ?_
    refine j_icmp_ne (pc := 34) (tgt := 42) hK dX8_set_34 (by decide) (fun c34 => ?_) (fun c34 => absurd c34 (by decide))
    refine j_iload_n (pc := 42) hK dX8_set_42 rfl ?_
    refine j_iconst (pc := 43) (v := 1) hK dX8_set_43 (by decide) ?_
    refine j_icmp_ne (pc := 44) (tgt := 53) hK dX8_set_44 (by decide) (fun c44 => ?_) (fun c44 => absurd c44 (by decide))
    refine j_iload_n (pc := 53) hK dX8_set_53 rfl ?_
    refine j_iconst (pc := 54) (v := 2) hK dX8_set_54 (by decide) ?_
    refine j_icmp_ne (pc := 55) (tgt := 64) hK dX8_set_55 (by decide) (fun c55 => absurd (by decide) c55) (fun c55 => ?_)
    refine j_sipush (pc := 58) (v := 240) hK dX8_set_58 (by decide) ?_
    refine j_goto (pc := 61) (tgt := 88) hK dX8_set_61 (by decide) ?_
    refine j_ist5 (pc := 88) hK dX8_set_88 (by decide) rfl ?_
    refine j_iload_n (pc := 90) hK dX8_set_90 rfl ?_
    refine j_iconst (pc := 91) (v := 0) hK dX8_set_91 (by decide) ?_
    refine j_bipush (pc := 92) (v := 8) hK dX8_set_92 (by decide) ?_
    refine j_callS (pc := 94) hK hQ (c_Ywithin _ _ _) cal_X8_within q1167 dX8_set_94 rfl rfl (nle rfl) (nle rfl) (nle rfl) (nle rfl) (kr_i fun r94 => ?_) kx_i
    refine J.pre fun e94 => ?_
    subst e94
    refine j_if_eq_b (pc := 97) (tgt := 124) hK dX8_set_97 (by decide) (fun c97 => ?_) (fun c97 => ?_)
    · refine j_bipush (pc := 124) (v := (-2)) hK dX8_set_124 (by decide) ?_
      exact j_iret (pc := 126) hK hQ (nle rfl) (nle rfl) dX8_set_126 (fun h w => ⟨_, rfl, _, _, by clear hK hQ; unfold oSet setLo setHi setA setF; grind, w⟩)
    · refine j_iload_n (pc := 100) hK dX8_set_100 rfl ?_
      refine j_iconst (pc := 101) (v := 4) hK dX8_set_101 (by decide) ?_
      refine j_icmp_ge (pc := 102) (tgt := 113) hK dX8_set_102 (by decide) (fun c102 => absurd c102 (by decide)) (fun c102 => ?_)
      refine j_aload_n (pc := 105) hK dX8_set_105 rfl ?_
      refine j_iload_n (pc := 106) hK dX8_set_106 rfl ?_
      refine j_callV (pc := 107) hK hQ (c_YisBoat _) cal_X8_isBoat yi_isC q1370 dX8_set_107 rfl rfl (nle rfl) (nle rfl) (nle rfl) (nle rfl) (kr_i fun r107 => ?_) kx_i
      refine J.pre fun e107 => ?_
      subst e107
      refine j_if_eq_b (pc := 110) (tgt := 124) hK dX8_set_110 (by decide) (fun c110 => ?_) (fun c110 => ?_)
      · refine j_bipush (pc := 124) (v := (-2)) hK dX8_set_124 (by decide) ?_
        exact j_iret (pc := 126) hK hQ (nle rfl) (nle rfl) dX8_set_126 (fun h w => ⟨_, rfl, _, _, by clear hK hQ; unfold oSet setLo setHi setA setF; grind, w⟩)
      · try have hb := bo_in (by assumption) h0 h7
        refine j_iload_n (pc := 113) hK dX8_set_113 rfl ?_
        refine j_iload (pc := 114) hK dX8_set_114 rfl ?_
        refine j_iload (pc := 116) hK dX8_set_116 rfl ?_
        refine j_callS (pc := 118) hK hQ (c_Ywithin _ _ _) cal_X8_within q1167 dX8_set_118 rfl rfl (nle rfl) (nle rfl) (nle rfl) (nle rfl) (kr_i fun r118 => ?_) kx_i
        refine J.pre fun e118 => ?_
        subst e118
        refine j_if_ne_b (pc := 121) (tgt := 127) hK dX8_set_121 (by decide) (fun c121 => ?_) (fun c121 => ?_)
        · refine j_iload_n (pc := 127) hK dX8_set_127 rfl ?_
          refine j_tableIn (pc := 128) (tgt := 212) hK dX8_set_128 (by decide) (by decide) rfl (by decide) ?_
          refine j_aload_n (pc := 212) hK dX8_set_212 rfl ?_
          refine yi_getR (pc := 213) (k := 5) hK (by decide) rfl q1245 rfl dX8_set_213 ?_
          refine j_iload_n (pc := 216) hK dX8_set_216 rfl ?_
          refine yi_ald (pc := 217) (k := 5) hK rfl rfl (by first | assumption | exact vp_in_c (by decide)) dX8_set_217 ?_
          refine j_ist6 (pc := 218) hK dX8_set_218 (by decide) rfl ?_
          refine j_aload_n (pc := 220) hK dX8_set_220 rfl ?_
          refine yi_getR (pc := 221) (k := 5) hK (by decide) rfl q1245 rfl dX8_set_221 ?_
          refine j_iload_n (pc := 224) hK dX8_set_224 rfl ?_
          refine j_iload_n (pc := 225) hK dX8_set_225 rfl ?_
          refine yi_ast (pc := 226) (k := 5) hK rfl rfl (by decide) (by decide) (by first | assumption | exact vp_in_c (by decide)) dX8_set_226 ?_
          refine j_iload (pc := 227) hK dX8_set_227 rfl ?_
          exact j_iret (pc := 229) hK hQ (nle rfl) (nle rfl) dX8_set_229 (fun h w => ⟨_, rfl, _, _, by clear hK hQ; unfold oSet setLo setHi setA setF; grind, w⟩)
        · refine j_bipush (pc := 124) (v := (-2)) hK dX8_set_124 (by decide) ?_
          exact j_iret (pc := 126) hK hQ (nle rfl) (nle rfl) dX8_set_126 (fun h w => ⟨_, rfl, _, _, by clear hK hQ; unfold oSet setLo setHi setA setF; grind, w⟩)
  · skip
    refine j_iload_n (pc := 0) hK dX8_set_0 rfl ?_
    refine j_iconst (pc := 1) (v := 2) hK dX8_set_1 (by decide) ?_
    refine j_icmp_ne (pc := 2) (tgt := 9) hK dX8_set_2 (by decide) (fun c2 => ?_) (fun c2 => absurd c2 (by decide))
    refine j_iload_n (pc := 9) hK dX8_set_9 rfl ?_
    refine j_bipush (pc := 10) (v := 6) hK dX8_set_10 (by decide) ?_
    refine j_icmp_eq (pc := 12) (tgt := 21) hK dX8_set_12 (by decide) (fun c12 => absurd c12 (by decide)) (fun c12 => ?_)
    refine j_iload_n (pc := 15) hK dX8_set_15 rfl ?_
    refine j_bipush (pc := 16) (v := 7) hK dX8_set_16 (by decide) ?_
    refine j_icmp_ne (pc := 18) (tgt := 25) hK dX8_set_18 (by decide) (fun c18 => ?_) (fun c18 => absurd c18 (by decide))
    refine j_iconst (pc := 25) (v := 0) hK dX8_set_25 (by decide) ?_
    refine j_ist4 (pc := 26) hK dX8_set_26 (by decide) rfl ?_
    refine j_iload_n (pc := 28) hK dX8_set_28 rfl ?_
    refine j_if_eq (pc := 29) (tgt := 37) hK dX8_set_29 (by decide) (fun c29 => absurd c29 (by decide)) (fun c29 => ?_)
    refine j_iload_n (pc := 32) hK dX8_set_32 rfl ?_
    refine j_iconst (pc := 33) (v := 4) hK dX8_set_33 (by decide) ?_
    refine j_icmp_ne (pc := 34) (tgt := 42) hK dX8_set_34 (by decide) (fun c34 => ?_) (fun c34 => absurd c34 (by decide))
    refine j_iload_n (pc := 42) hK dX8_set_42 rfl ?_
    refine j_iconst (pc := 43) (v := 1) hK dX8_set_43 (by decide) ?_
    refine j_icmp_ne (pc := 44) (tgt := 53) hK dX8_set_44 (by decide) (fun c44 => ?_) (fun c44 => absurd c44 (by decide))
    refine j_iload_n (pc := 53) hK dX8_set_53 rfl ?_
    refine j_iconst (pc := 54) (v := 2) hK dX8_set_54 (by decide) ?_
    refine j_icmp_ne (pc := 55) (tgt := 64) hK dX8_set_55 (by decide) (fun c55 => ?_) (fun c55 => absurd c55 (by decide))
    refine j_iload_n (pc := 64) hK dX8_set_64 rfl ?_
    refine j_bipush (pc := 65) (v := 6) hK dX8_set_65 (by decide) ?_
    refine j_icmp_ne (pc := 67) (tgt := 75) hK dX8_set_67 (by decide) (fun c67 => ?_) (fun c67 => absurd c67 (by decide))
    refine j_iload_n (pc := 75) hK dX8_set_75 rfl ?_
    refine j_bipush (pc := 76) (v := 8) hK dX8_set_76 (by decide) ?_
    refine j_icmp_ne (pc := 78) (tgt := 86) hK dX8_set_78 (by decide) (fun c78 => ?_) (fun c78 => absurd c78 (by decide))
    refine j_bipush (pc := 86) (v := 9) hK dX8_set_86 (by decide) ?_
    refine j_ist5 (pc := 88) hK dX8_set_88 (by decide) rfl ?_
    refine j_iload_n (pc := 90) hK dX8_set_90 rfl ?_
    refine j_iconst (pc := 91) (v := 0) hK dX8_set_91 (by decide) ?_
    refine j_bipush (pc := 92) (v := 8) hK dX8_set_92 (by decide) ?_
    refine j_callS (pc := 94) hK hQ (c_Ywithin _ _ _) cal_X8_within q1167 dX8_set_94 rfl rfl (nle rfl) (nle rfl) (nle rfl) (nle rfl) (kr_i fun r94 => ?_) kx_i
    refine J.pre fun e94 => ?_
    subst e94
    refine j_if_eq_b (pc := 97) (tgt := 124) hK dX8_set_97 (by decide) (fun c97 => ?_) (fun c97 => ?_)
    · refine j_bipush (pc := 124) (v := (-2)) hK dX8_set_124 (by decide) ?_
      exact j_iret (pc := 126) hK hQ (nle rfl) (nle rfl) dX8_set_126 (fun h w => ⟨_, rfl, _, _, by clear hK hQ; unfold oSet setLo setHi setA setF; grind, w⟩)
    · refine j_iload_n (pc := 100) hK dX8_set_100 rfl ?_
      refine j_iconst (pc := 101) (v := 4) hK dX8_set_101 (by decide) ?_
      refine j_icmp_ge (pc := 102) (tgt := 113) hK dX8_set_102 (by decide) (fun c102 => absurd c102 (by decide)) (fun c102 => ?_)
      refine j_aload_n (pc := 105) hK dX8_set_105 rfl ?_
      refine j_iload_n (pc := 106) hK dX8_set_106 rfl ?_
      refine j_callV (pc := 107) hK hQ (c_YisBoat _) cal_X8_isBoat yi_isC q1370 dX8_set_107 rfl rfl (nle rfl) (nle rfl) (nle rfl) (nle rfl) (kr_i fun r107 => ?_) kx_i
      refine J.pre fun e107 => ?_
      subst e107
      refine j_if_eq_b (pc := 110) (tgt := 124) hK dX8_set_110 (by decide) (fun c110 => ?_) (fun c110 => ?_)
      · refine j_bipush (pc := 124) (v := (-2)) hK dX8_set_124 (by decide) ?_
        exact j_iret (pc := 126) hK hQ (nle rfl) (nle rfl) dX8_set_126 (fun h w => ⟨_, rfl, _, _, by clear hK hQ; unfold oSet setLo setHi setA setF; grind, w⟩)
      · try have hb := bo_in (by assumption) h0 h7
        refine j_iload_n (pc := 113) hK dX8_set_113 rfl ?_
        refine j_iload (pc := 114) hK dX8_set_114 rfl ?_
        refine j_iload (pc := 116) hK dX8_set_116 rfl ?_
        refine j_callS (pc := 118) hK hQ (c_Ywithin _ _ _) cal_X8_within q1167 dX8_set_118 rfl rfl (nle rfl) (nle rfl) (nle rfl) (nle rfl) (kr_i fun r118 => ?_) kx_i
        refine J.pre fun e118 => ?_
        subst e118
        refine j_if_ne_b (pc := 121) (tgt := 127) hK dX8_set_121 (by decide) (fun c121 => ?_) (fun c121 => ?_)
        · refine j_iload_n (pc := 127) hK dX8_set_127 rfl ?_
          refine j_tableIn (pc := 128) (tgt := 230) hK dX8_set_128 (by decide) (by decide) rfl (by decide) ?_
          refine j_aload_n (pc := 230) hK dX8_set_230 rfl ?_
          refine yi_getR (pc := 231) (k := 2) hK (by decide) rfl q1242 rfl dX8_set_231 ?_
          refine j_iload_n (pc := 234) hK dX8_set_234 rfl ?_
          refine yi_ald (pc := 235) (k := 2) hK rfl rfl (by first | assumption | exact vp_in_c (by decide)) dX8_set_235 ?_
          refine j_ist6 (pc := 236) hK dX8_set_236 (by decide) rfl ?_
          refine j_aload_n (pc := 238) hK dX8_set_238 rfl ?_
          refine yi_getR (pc := 239) (k := 2) hK (by decide) rfl q1242 rfl dX8_set_239 ?_
          refine j_iload_n (pc := 242) hK dX8_set_242 rfl ?_
          refine j_iload_n (pc := 243) hK dX8_set_243 rfl ?_
          refine yi_ast (pc := 244) (k := 2) hK rfl rfl (by decide) (by decide) (by first | assumption | exact vp_in_c (by decide)) dX8_set_244 ?_
          refine j_iload (pc := 245) hK dX8_set_245 rfl ?_
          exact j_iret (pc := 247) hK hQ (nle rfl) (nle rfl) dX8_set_247 (fun h w => ⟨_, rfl, _, _, by clear hK hQ; unfold oSet setLo setHi setA setF; grind, w⟩)
        · refine j_bipush (pc := 124) (v := (-2)) hK dX8_set_124 (by decide) ?_
          exact j_iret (pc := 126) hK hQ (nle rfl) (nle rfl) dX8_set_126 (fun h w => ⟨_, rfl, _, _, by clear hK hQ; unfold oSet setLo setHi setA setF; grind, w⟩)
  · skip
    refine j_iload_n (pc := 0) hK dX8_set_0 rfl ?_
    refine j_iconst (pc := 1) (v := 2) hK dX8_set_1 (by decide) ?_
    refine j_icmp_ne (pc := 2) (tgt := 9) hK dX8_set_2 (by decide) (fun c2 => ?_) (fun c2 => absurd c2 (by decide))
    refine j_iload_n (pc := 9) hK dX8_set_9 rfl ?_
    refine j_bipush (pc := 10) (v := 6) hK dX8_set_10 (by decide) ?_
    refine j_icmp_eq (pc := 12) (tgt := 21) hK dX8_set_12 (by decide) (fun c12 => absurd c12 (by decide)) (fun c12 => ?_)
    refine j_iload_n (pc := 15) hK dX8_set_15 rfl ?_
    refine j_bipush (pc := 16) (v := 7) hK dX8_set_16 (by decide) ?_
    refine j_icmp_ne (pc := 18) (tgt := 25) hK dX8_set_18 (by decide) (fun c18 => ?_) (fun c18 => absurd c18 (by decide))
    refine j_iconst (pc := 25) (v := 0) hK dX8_set_25 (by decide) ?_
    refine j_ist4 (pc := 26) hK dX8_set_26 (by decide) rfl ?_
    refine j_iload_n (pc := 28) hK dX8_set_28 rfl ?_
    refine j_if_eq (pc := 29) (tgt := 37) hK dX8_set_29 (by decide) (fun c29 => absurd c29 (by decide)) (fun c29 => ?_)
    refine j_iload_n (pc := 32) hK dX8_set_32 rfl ?_
    refine j_iconst (pc := 33) (v := 4) hK dX8_set_33 (by decide) ?_
    refine j_icmp_ne (pc := 34) (tgt := 42) hK dX8_set_34 (by decide) (fun c34 => absurd (by decide) c34) (fun c34 => ?_)
    refine j_bipush (pc := 37) (v := 47) hK dX8_set_37 (by decide) ?_
    refine j_goto (pc := 39) (tgt := 88) hK dX8_set_39 (by decide) ?_
    refine j_ist5 (pc := 88) hK dX8_set_88 (by decide) rfl ?_
    refine j_iload_n (pc := 90) hK dX8_set_90 rfl ?_
    refine j_iconst (pc := 91) (v := 0) hK dX8_set_91 (by decide) ?_
    refine j_bipush (pc := 92) (v := 8) hK dX8_set_92 (by decide) ?_
    refine j_callS (pc := 94) hK hQ (c_Ywithin _ _ _) cal_X8_within q1167 dX8_set_94 rfl rfl (nle rfl) (nle rfl) (nle rfl) (nle rfl) (kr_i fun r94 => ?_) kx_i
    refine J.pre fun e94 => ?_
    subst e94
    refine j_if_eq_b (pc := 97) (tgt := 124) hK dX8_set_97 (by decide) (fun c97 => ?_) (fun c97 => ?_)
    · refine j_bipush (pc := 124) (v := (-2)) hK dX8_set_124 (by decide) ?_
      exact j_iret (pc := 126) hK hQ (nle rfl) (nle rfl) dX8_set_126 (fun h w => ⟨_, rfl, _, _, by clear hK hQ; unfold oSet setLo setHi setA setF; grind, w⟩)
    · refine j_iload_n (pc := 100) hK dX8_set_100 rfl ?_
      refine j_iconst (pc := 101) (v := 4) hK dX8_set_101 (by decide) ?_
      refine j_icmp_ge (pc := 102) (tgt := 113) hK dX8_set_102 (by decide) (fun c102 => ?_) (fun c102 => absurd (by decide) c102)
      try have hb := bo_in (by assumption) h0 h7
      refine j_iload_n (pc := 113) hK dX8_set_113 rfl ?_
      refine j_iload (pc := 114) hK dX8_set_114 rfl ?_
      refine j_iload (pc := 116) hK dX8_set_116 rfl ?_
      refine j_callS (pc := 118) hK hQ (c_Ywithin _ _ _) cal_X8_within q1167 dX8_set_118 rfl rfl (nle rfl) (nle rfl) (nle rfl) (nle rfl) (kr_i fun r118 => ?_) kx_i
      refine J.pre fun e118 => ?_
      subst e118
      refine j_if_ne_b (pc := 121) (tgt := 127) hK dX8_set_121 (by decide) (fun c121 => ?_) (fun c121 => ?_)
      · refine j_iload_n (pc := 127) hK dX8_set_127 rfl ?_
        refine j_tableIn (pc := 128) (tgt := 248) hK dX8_set_128 (by decide) (by decide) rfl (by decide) ?_
        refine j_aload_n (pc := 248) hK dX8_set_248 rfl ?_
        refine yi_getI (pc := 249) (k := 8) hK (by decide) rfl rfl q1248 rfl dX8_set_249 ?_
        refine j_ist6 (pc := 252) hK dX8_set_252 (by decide) rfl ?_
        refine j_aload_n (pc := 254) hK dX8_set_254 rfl ?_
        refine j_iload_n (pc := 255) hK dX8_set_255 rfl ?_
        refine yi_putI (pc := 256) (k := 8) hK (by decide) rfl rfl (by decide) q1248 rfl rfl rfl rfl dX8_set_256 ?_
        refine j_iload (pc := 259) hK dX8_set_259 rfl ?_
        exact j_iret (pc := 261) hK hQ (nle rfl) (nle rfl) dX8_set_261 (fun h w => ⟨_, rfl, _, _, by clear hK hQ; unfold oSet setLo setHi setA setF; grind, w⟩)
      · refine j_bipush (pc := 124) (v := (-2)) hK dX8_set_124 (by decide) ?_
        exact j_iret (pc := 126) hK hQ (nle rfl) (nle rfl) dX8_set_126 (fun h w => ⟨_, rfl, _, _, by clear hK hQ; unfold oSet setLo setHi setA setF; grind, w⟩)
  · skip
    refine j_iload_n (pc := 0) hK dX8_set_0 rfl ?_
    refine j_iconst (pc := 1) (v := 2) hK dX8_set_1 (by decide) ?_
    refine j_icmp_ne (pc := 2) (tgt := 9) hK dX8_set_2 (by decide) (fun c2 => ?_) (fun c2 => absurd c2 (by decide))
    refine j_iload_n (pc := 9) hK dX8_set_9 rfl ?_
    refine j_bipush (pc := 10) (v := 6) hK dX8_set_10 (by decide) ?_
    refine j_icmp_eq (pc := 12) (tgt := 21) hK dX8_set_12 (by decide) (fun c12 => absurd c12 (by decide)) (fun c12 => ?_)
    refine j_iload_n (pc := 15) hK dX8_set_15 rfl ?_
    refine j_bipush (pc := 16) (v := 7) hK dX8_set_16 (by decide) ?_
    refine j_icmp_ne (pc := 18) (tgt := 25) hK dX8_set_18 (by decide) (fun c18 => ?_) (fun c18 => absurd c18 (by decide))
    refine j_iconst (pc := 25) (v := 0) hK dX8_set_25 (by decide) ?_
    refine j_ist4 (pc := 26) hK dX8_set_26 (by decide) rfl ?_
    refine j_iload_n (pc := 28) hK dX8_set_28 rfl ?_
    refine j_if_eq (pc := 29) (tgt := 37) hK dX8_set_29 (by decide) (fun c29 => absurd c29 (by decide)) (fun c29 => ?_)
    refine j_iload_n (pc := 32) hK dX8_set_32 rfl ?_
    refine j_iconst (pc := 33) (v := 4) hK dX8_set_33 (by decide) ?_
    refine j_icmp_ne (pc := 34) (tgt := 42) hK dX8_set_34 (by decide) (fun c34 => ?_) (fun c34 => absurd c34 (by decide))
    refine j_iload_n (pc := 42) hK dX8_set_42 rfl ?_
    refine j_iconst (pc := 43) (v := 1) hK dX8_set_43 (by decide) ?_
    refine j_icmp_ne (pc := 44) (tgt := 53) hK dX8_set_44 (by decide) (fun c44 => ?_) (fun c44 => absurd c44 (by decide))
    refine j_iload_n (pc := 53) hK dX8_set_53 rfl ?_
    refine j_iconst (pc := 54) (v := 2) hK dX8_set_54 (by decide) ?_
    refine j_icmp_ne (pc := 55) (tgt := 64) hK dX8_set_55 (by decide) (fun c55 => ?_) (fun c55 => absurd c55 (by decide))
    refine j_iload_n (pc := 64) hK dX8_set_64 rfl ?_
    refine j_bipush (pc := 65) (v := 6) hK dX8_set_65 (by decide) ?_
    refine j_icmp_ne (pc := 67) (tgt := 75) hK dX8_set_67 (by decide) (fun c67 => ?_) (fun c67 => absurd c67 (by decide))
    refine j_iload_n (pc := 75) hK dX8_set_75 rfl ?_
    refine j_bipush (pc := 76) (v := 8) hK dX8_set_76 (by decide) ?_
    refine j_icmp_ne (pc := 78) (tgt := 86) hK dX8_set_78 (by decide) (fun c78 => ?_) (fun c78 => absurd c78 (by decide))
    refine j_bipush (pc := 86) (v := 9) hK dX8_set_86 (by decide) ?_
    refine j_ist5 (pc := 88) hK dX8_set_88 (by decide) rfl ?_
    refine j_iload_n (pc := 90) hK dX8_set_90 rfl ?_
    refine j_iconst (pc := 91) (v := 0) hK dX8_set_91 (by decide) ?_
    refine j_bipush (pc := 92) (v := 8) hK dX8_set_92 (by decide) ?_
    refine j_callS (pc := 94) hK hQ (c_Ywithin _ _ _) cal_X8_within q1167 dX8_set_94 rfl rfl (nle rfl) (nle rfl) (nle rfl) (nle rfl) (kr_i fun r94 => ?_) kx_i
    refine J.pre fun e94 => ?_
    subst e94
    refine j_if_eq_b (pc := 97) (tgt := 124) hK dX8_set_97 (by decide) (fun c97 => ?_) (fun c97 => ?_)
    · refine j_bipush (pc := 124) (v := (-2)) hK dX8_set_124 (by decide) ?_
      exact j_iret (pc := 126) hK hQ (nle rfl) (nle rfl) dX8_set_126 (fun h w => ⟨_, rfl, _, _, by clear hK hQ; unfold oSet setLo setHi setA setF; grind, w⟩)
    · refine j_iload_n (pc := 100) hK dX8_set_100 rfl ?_
      refine j_iconst (pc := 101) (v := 4) hK dX8_set_101 (by decide) ?_
      refine j_icmp_ge (pc := 102) (tgt := 113) hK dX8_set_102 (by decide) (fun c102 => ?_) (fun c102 => absurd (by decide) c102)
      try have hb := bo_in (by assumption) h0 h7
      refine j_iload_n (pc := 113) hK dX8_set_113 rfl ?_
      refine j_iload (pc := 114) hK dX8_set_114 rfl ?_
      refine j_iload (pc := 116) hK dX8_set_116 rfl ?_
      refine j_callS (pc := 118) hK hQ (c_Ywithin _ _ _) cal_X8_within q1167 dX8_set_118 rfl rfl (nle rfl) (nle rfl) (nle rfl) (nle rfl) (kr_i fun r118 => ?_) kx_i
      refine J.pre fun e118 => ?_
      subst e118
      refine j_if_ne_b (pc := 121) (tgt := 127) hK dX8_set_121 (by decide) (fun c121 => ?_) (fun c121 => ?_)
      · refine j_iload_n (pc := 127) hK dX8_set_127 rfl ?_
        refine j_tableIn (pc := 128) (tgt := 262) hK dX8_set_128 (by decide) (by decide) rfl (by decide) ?_
        refine j_aload_n (pc := 262) hK dX8_set_262 rfl ?_
        refine yi_getI (pc := 263) (k := 9) hK (by decide) rfl rfl q1249 rfl dX8_set_263 ?_
        refine j_ist6 (pc := 266) hK dX8_set_266 (by decide) rfl ?_
        refine j_aload_n (pc := 268) hK dX8_set_268 rfl ?_
        refine j_iload_n (pc := 269) hK dX8_set_269 rfl ?_
        refine yi_putI (pc := 270) (k := 9) hK (by decide) rfl rfl (by decide) q1249 rfl rfl rfl rfl dX8_set_270 ?_
        refine j_iload (pc := 273) hK dX8_set_273 rfl ?_
        exact j_iret (pc := 275) hK hQ (nle rfl) (nle rfl) dX8_set_275 (fun h w => ⟨_, rfl, _, _, by clear hK hQ; unfold oSet setLo setHi setA setF; grind, w⟩)
      · refine j_bipush (pc := 124) (v := (-2)) hK dX8_set_124 (by decide) ?_
        exact j_iret (pc := 126) hK hQ (nle rfl) (nle rfl) dX8_set_126 (fun h w => ⟨_, rfl, _, _, by clear hK hQ; unfold oSet setLo setHi setA setF; grind, w⟩)
  · skip
    refine j_iload_n (pc := 0) hK dX8_set_0 rfl ?_
    refine j_iconst (pc := 1) (v := 2) hK dX8_set_1 (by decide) ?_
    refine j_icmp_ne (pc := 2) (tgt := 9) hK dX8_set_2 (by decide) (fun c2 => ?_) (fun c2 => absurd c2 (by decide))
    refine j_iload_n (pc := 9) hK dX8_set_9 rfl ?_
    refine j_bipush (pc := 10) (v := 6) hK dX8_set_10 (by decide) ?_
    refine j_icmp_eq (pc := 12) (tgt := 21) hK dX8_set_12 (by decide) (fun c12 => ?_) (fun c12 => absurd (by decide) c12)
    refine j_iconst (pc := 21) (v := 1) hK dX8_set_21 (by decide) ?_
    refine j_goto (pc := 22) (tgt := 26) hK dX8_set_22 (by decide) ?_
    refine j_ist4 (pc := 26) hK dX8_set_26 (by decide) rfl ?_
    refine j_iload_n (pc := 28) hK dX8_set_28 rfl ?_
    refine j_if_eq (pc := 29) (tgt := 37) hK dX8_set_29 (by decide) (fun c29 => absurd c29 (by decide)) (fun c29 => ?_)
    refine j_iload_n (pc := 32) hK dX8_set_32 rfl ?_
    refine j_iconst (pc := 33) (v := 4) hK dX8_set_33 (by decide) ?_
    refine j_icmp_ne (pc := 34) (tgt := 42) hK dX8_set_34 (by decide) (fun c34 => ?_) (fun c34 => absurd c34 (by decide))
    refine j_iload_n (pc := 42) hK dX8_set_42 rfl ?_
    refine j_iconst (pc := 43) (v := 1) hK dX8_set_43 (by decide) ?_
    refine j_icmp_ne (pc := 44) (tgt := 53) hK dX8_set_44 (by decide) (fun c44 => ?_) (fun c44 => absurd c44 (by decide))
    refine j_iload_n (pc := 53) hK dX8_set_53 rfl ?_
    refine j_iconst (pc := 54) (v := 2) hK dX8_set_54 (by decide) ?_
    refine j_icmp_ne (pc := 55) (tgt := 64) hK dX8_set_55 (by decide) (fun c55 => ?_) (fun c55 => absurd c55 (by decide))
    refine j_iload_n (pc := 64) hK dX8_set_64 rfl ?_
    refine j_bipush (pc := 65) (v := 6) hK dX8_set_65 (by decide) ?_
    refine j_icmp_ne (pc := 67) (tgt := 75) hK dX8_set_67 (by decide) (fun c67 => absurd (by decide) c67) (fun c67 => ?_)
    refine j_bipush (pc := 70) (v := 6) hK dX8_set_70 (by decide) ?_
    refine j_goto (pc := 72) (tgt := 88) hK dX8_set_72 (by decide) ?_
    refine j_ist5 (pc := 88) hK dX8_set_88 (by decide) rfl ?_
    refine j_iload_n (pc := 90) hK dX8_set_90 rfl ?_
    refine j_iconst (pc := 91) (v := 0) hK dX8_set_91 (by decide) ?_
    refine j_bipush (pc := 92) (v := 8) hK dX8_set_92 (by decide) ?_
    refine j_callS (pc := 94) hK hQ (c_Ywithin _ _ _) cal_X8_within q1167 dX8_set_94 rfl rfl (nle rfl) (nle rfl) (nle rfl) (nle rfl) (kr_i fun r94 => ?_) kx_i
    refine J.pre fun e94 => ?_
    subst e94
    refine j_if_eq_b (pc := 97) (tgt := 124) hK dX8_set_97 (by decide) (fun c97 => ?_) (fun c97 => ?_)
    · refine j_bipush (pc := 124) (v := (-2)) hK dX8_set_124 (by decide) ?_
      exact j_iret (pc := 126) hK hQ (nle rfl) (nle rfl) dX8_set_126 (fun h w => ⟨_, rfl, _, _, by clear hK hQ; unfold oSet setLo setHi setA setF; grind, w⟩)
    · refine j_iload_n (pc := 100) hK dX8_set_100 rfl ?_
      refine j_iconst (pc := 101) (v := 4) hK dX8_set_101 (by decide) ?_
      refine j_icmp_ge (pc := 102) (tgt := 113) hK dX8_set_102 (by decide) (fun c102 => ?_) (fun c102 => absurd (by decide) c102)
      try have hb := bo_in (by assumption) h0 h7
      refine j_iload_n (pc := 113) hK dX8_set_113 rfl ?_
      refine j_iload (pc := 114) hK dX8_set_114 rfl ?_
      refine j_iload (pc := 116) hK dX8_set_116 rfl ?_
      refine j_callS (pc := 118) hK hQ (c_Ywithin _ _ _) cal_X8_within q1167 dX8_set_118 rfl rfl (nle rfl) (nle rfl) (nle rfl) (nle rfl) (kr_i fun r118 => ?_) kx_i
      refine J.pre fun e118 => ?_
      subst e118
      refine j_if_ne_b (pc := 121) (tgt := 127) hK dX8_set_121 (by decide) (fun c121 => ?_) (fun c121 => ?_)
      · refine j_iload_n (pc := 127) hK dX8_set_127 rfl ?_
        refine j_tableIn (pc := 128) (tgt := 276) hK dX8_set_128 (by decide) (by decide) rfl (by decide) ?_
        refine j_aload_n (pc := 276) hK dX8_set_276 rfl ?_
        refine yi_getI (pc := 277) (k := 11) hK (by decide) rfl rfl q1251 rfl dX8_set_277 ?_
        refine j_ist6 (pc := 280) hK dX8_set_280 (by decide) rfl ?_
        refine j_aload_n (pc := 282) hK dX8_set_282 rfl ?_
        refine j_iload_n (pc := 283) hK dX8_set_283 rfl ?_
        refine yi_putI (pc := 284) (k := 11) hK (by decide) rfl rfl (by decide) q1251 rfl rfl rfl rfl dX8_set_284 ?_
        refine j_iload (pc := 287) hK dX8_set_287 rfl ?_
        exact j_iret (pc := 289) hK hQ (nle rfl) (nle rfl) dX8_set_289 (fun h w => ⟨_, rfl, _, _, by clear hK hQ; unfold oSet setLo setHi setA setF; grind, w⟩)
      · refine j_bipush (pc := 124) (v := (-2)) hK dX8_set_124 (by decide) ?_
        exact j_iret (pc := 126) hK hQ (nle rfl) (nle rfl) dX8_set_126 (fun h w => ⟨_, rfl, _, _, by clear hK hQ; unfold oSet setLo setHi setA setF; grind, w⟩)
  · skip
    refine j_iload_n (pc := 0) hK dX8_set_0 rfl ?_
    refine j_iconst (pc := 1) (v := 2) hK dX8_set_1 (by decide) ?_
    refine j_icmp_ne (pc := 2) (tgt := 9) hK dX8_set_2 (by decide) (fun c2 => ?_) (fun c2 => absurd c2 (by decide))
    refine j_iload_n (pc := 9) hK dX8_set_9 rfl ?_
    refine j_bipush (pc := 10) (v := 6) hK dX8_set_10 (by decide) ?_
    refine j_icmp_eq (pc := 12) (tgt := 21) hK dX8_set_12 (by decide) (fun c12 => absurd c12 (by decide)) (fun c12 => ?_)
    refine j_iload_n (pc := 15) hK dX8_set_15 rfl ?_
    refine j_bipush (pc := 16) (v := 7) hK dX8_set_16 (by decide) ?_
    refine j_icmp_ne (pc := 18) (tgt := 25) hK dX8_set_18 (by decide) (fun c18 => absurd (by decide) c18) (fun c18 => ?_)
    refine j_iconst (pc := 21) (v := 1) hK dX8_set_21 (by decide) ?_
    refine j_goto (pc := 22) (tgt := 26) hK dX8_set_22 (by decide) ?_
    refine j_ist4 (pc := 26) hK dX8_set_26 (by decide) rfl ?_
    refine j_iload_n (pc := 28) hK dX8_set_28 rfl ?_
    refine j_if_eq (pc := 29) (tgt := 37) hK dX8_set_29 (by decide) (fun c29 => absurd c29 (by decide)) (fun c29 => ?_)
    refine j_iload_n (pc := 32) hK dX8_set_32 rfl ?_
    refine j_iconst (pc := 33) (v := 4) hK dX8_set_33 (by decide) ?_
    refine j_icmp_ne (pc := 34) (tgt := 42) hK dX8_set_34 (by decide) (fun c34 => ?_) (fun c34 => absurd c34 (by decide))
    refine j_iload_n (pc := 42) hK dX8_set_42 rfl ?_
    refine j_iconst (pc := 43) (v := 1) hK dX8_set_43 (by decide) ?_
    refine j_icmp_ne (pc := 44) (tgt := 53) hK dX8_set_44 (by decide) (fun c44 => ?_) (fun c44 => absurd c44 (by decide))
    refine j_iload_n (pc := 53) hK dX8_set_53 rfl ?_
    refine j_iconst (pc := 54) (v := 2) hK dX8_set_54 (by decide) ?_
    refine j_icmp_ne (pc := 55) (tgt := 64) hK dX8_set_55 (by decide) (fun c55 => ?_) (fun c55 => absurd c55 (by decide))
    refine j_iload_n (pc := 64) hK dX8_set_64 rfl ?_
    refine j_bipush (pc := 65) (v := 6) hK dX8_set_65 (by decide) ?_
    refine j_icmp_ne (pc := 67) (tgt := 75) hK dX8_set_67 (by decide) (fun c67 => ?_) (fun c67 => absurd c67 (by decide))
    refine j_iload_n (pc := 75) hK dX8_set_75 rfl ?_
    refine j_bipush (pc := 76) (v := 8) hK dX8_set_76 (by decide) ?_
    refine j_icmp_ne (pc := 78) (tgt := 86) hK dX8_set_78 (by decide) (fun c78 => ?_) (fun c78 => absurd c78 (by decide))
    refine j_bipush (pc := 86) (v := 9) hK dX8_set_86 (by decide) ?_
    refine j_ist5 (pc := 88) hK dX8_set_88 (by decide) rfl ?_
    refine j_iload_n (pc := 90) hK dX8_set_90 rfl ?_
    refine j_iconst (pc := 91) (v := 0) hK dX8_set_91 (by decide) ?_
    refine j_bipush (pc := 92) (v := 8) hK dX8_set_92 (by decide) ?_
    refine j_callS (pc := 94) hK hQ (c_Ywithin _ _ _) cal_X8_within q1167 dX8_set_94 rfl rfl (nle rfl) (nle rfl) (nle rfl) (nle rfl) (kr_i fun r94 => ?_) kx_i
    refine J.pre fun e94 => ?_
    subst e94
    refine j_if_eq_b (pc := 97) (tgt := 124) hK dX8_set_97 (by decide) (fun c97 => ?_) (fun c97 => ?_)
    · refine j_bipush (pc := 124) (v := (-2)) hK dX8_set_124 (by decide) ?_
      exact j_iret (pc := 126) hK hQ (nle rfl) (nle rfl) dX8_set_126 (fun h w => ⟨_, rfl, _, _, by clear hK hQ; unfold oSet setLo setHi setA setF; grind, w⟩)
    · refine j_iload_n (pc := 100) hK dX8_set_100 rfl ?_
      refine j_iconst (pc := 101) (v := 4) hK dX8_set_101 (by decide) ?_
      refine j_icmp_ge (pc := 102) (tgt := 113) hK dX8_set_102 (by decide) (fun c102 => ?_) (fun c102 => absurd (by decide) c102)
      try have hb := bo_in (by assumption) h0 h7
      refine j_iload_n (pc := 113) hK dX8_set_113 rfl ?_
      refine j_iload (pc := 114) hK dX8_set_114 rfl ?_
      refine j_iload (pc := 116) hK dX8_set_116 rfl ?_
      refine j_callS (pc := 118) hK hQ (c_Ywithin _ _ _) cal_X8_within q1167 dX8_set_118 rfl rfl (nle rfl) (nle rfl) (nle rfl) (nle rfl) (kr_i fun r118 => ?_) kx_i
      refine J.pre fun e118 => ?_
      subst e118
      refine j_if_ne_b (pc := 121) (tgt := 127) hK dX8_set_121 (by decide) (fun c121 => ?_) (fun c121 => ?_)
      · refine j_iload_n (pc := 127) hK dX8_set_127 rfl ?_
        refine j_tableIn (pc := 128) (tgt := 290) hK dX8_set_128 (by decide) (by decide) rfl (by decide) ?_
        refine j_aload_n (pc := 290) hK dX8_set_290 rfl ?_
        refine yi_getI (pc := 291) (k := 12) hK (by decide) rfl rfl q1252 rfl dX8_set_291 ?_
        refine j_ist6 (pc := 294) hK dX8_set_294 (by decide) rfl ?_
        refine j_aload_n (pc := 296) hK dX8_set_296 rfl ?_
        refine j_iload_n (pc := 297) hK dX8_set_297 rfl ?_
        refine yi_putI (pc := 298) (k := 12) hK (by decide) rfl rfl (by decide) q1252 rfl rfl rfl rfl dX8_set_298 ?_
        refine j_iload (pc := 301) hK dX8_set_301 rfl ?_
        exact j_iret (pc := 303) hK hQ (nle rfl) (nle rfl) dX8_set_303 (fun h w => ⟨_, rfl, _, _, by clear hK hQ; unfold oSet setLo setHi setA setF; grind, w⟩)
      · refine j_bipush (pc := 124) (v := (-2)) hK dX8_set_124 (by decide) ?_
        exact j_iret (pc := 126) hK hQ (nle rfl) (nle rfl) dX8_set_126 (fun h w => ⟨_, rfl, _, _, by clear hK hQ; unfold oSet setLo setHi setA setF; grind, w⟩)
  · skip
    refine j_iload_n (pc := 0) hK dX8_set_0 rfl ?_
    refine j_iconst (pc := 1) (v := 2) hK dX8_set_1 (by decide) ?_
    refine j_icmp_ne (pc := 2) (tgt := 9) hK dX8_set_2 (by decide) (fun c2 => ?_) (fun c2 => absurd c2 (by decide))
    refine j_iload_n (pc := 9) hK dX8_set_9 rfl ?_
    refine j_bipush (pc := 10) (v := 6) hK dX8_set_10 (by decide) ?_
    refine j_icmp_eq (pc := 12) (tgt := 21) hK dX8_set_12 (by decide) (fun c12 => absurd c12 (by decide)) (fun c12 => ?_)
    refine j_iload_n (pc := 15) hK dX8_set_15 rfl ?_
    refine j_bipush (pc := 16) (v := 7) hK dX8_set_16 (by decide) ?_
    refine j_icmp_ne (pc := 18) (tgt := 25) hK dX8_set_18 (by decide) (fun c18 => ?_) (fun c18 => absurd c18 (by decide))
    refine j_iconst (pc := 25) (v := 0) hK dX8_set_25 (by decide) ?_
    refine j_ist4 (pc := 26) hK dX8_set_26 (by decide) rfl ?_
    refine j_iload_n (pc := 28) hK dX8_set_28 rfl ?_
    refine j_if_eq (pc := 29) (tgt := 37) hK dX8_set_29 (by decide) (fun c29 => absurd c29 (by decide)) (fun c29 => ?_)
    refine j_iload_n (pc := 32) hK dX8_set_32 rfl ?_
    refine j_iconst (pc := 33) (v := 4) hK dX8_set_33 (by decide) ?_
    refine j_icmp_ne (pc := 34) (tgt := 42) hK dX8_set_34 (by decide) (fun c34 => ?_) (fun c34 => absurd c34 (by decide))
    refine j_iload_n (pc := 42) hK dX8_set_42 rfl ?_
    refine j_iconst (pc := 43) (v := 1) hK dX8_set_43 (by decide) ?_
    refine j_icmp_ne (pc := 44) (tgt := 53) hK dX8_set_44 (by decide) (fun c44 => ?_) (fun c44 => absurd c44 (by decide))
    refine j_iload_n (pc := 53) hK dX8_set_53 rfl ?_
    refine j_iconst (pc := 54) (v := 2) hK dX8_set_54 (by decide) ?_
    refine j_icmp_ne (pc := 55) (tgt := 64) hK dX8_set_55 (by decide) (fun c55 => ?_) (fun c55 => absurd c55 (by decide))
    refine j_iload_n (pc := 64) hK dX8_set_64 rfl ?_
    refine j_bipush (pc := 65) (v := 6) hK dX8_set_65 (by decide) ?_
    refine j_icmp_ne (pc := 67) (tgt := 75) hK dX8_set_67 (by decide) (fun c67 => ?_) (fun c67 => absurd c67 (by decide))
    refine j_iload_n (pc := 75) hK dX8_set_75 rfl ?_
    refine j_bipush (pc := 76) (v := 8) hK dX8_set_76 (by decide) ?_
    refine j_icmp_ne (pc := 78) (tgt := 86) hK dX8_set_78 (by decide) (fun c78 => absurd (by decide) c78) (fun c78 => ?_)
    refine j_bipush (pc := 81) (v := 20) hK dX8_set_81 (by decide) ?_
    refine j_goto (pc := 83) (tgt := 88) hK dX8_set_83 (by decide) ?_
    refine j_ist5 (pc := 88) hK dX8_set_88 (by decide) rfl ?_
    refine j_iload_n (pc := 90) hK dX8_set_90 rfl ?_
    refine j_iconst (pc := 91) (v := 0) hK dX8_set_91 (by decide) ?_
    refine j_bipush (pc := 92) (v := 8) hK dX8_set_92 (by decide) ?_
    refine j_callS (pc := 94) hK hQ (c_Ywithin _ _ _) cal_X8_within q1167 dX8_set_94 rfl rfl (nle rfl) (nle rfl) (nle rfl) (nle rfl) (kr_i fun r94 => ?_) kx_i
    refine J.pre fun e94 => ?_
    subst e94
    refine j_if_eq_b (pc := 97) (tgt := 124) hK dX8_set_97 (by decide) (fun c97 => ?_) (fun c97 => ?_)
    · refine j_bipush (pc := 124) (v := (-2)) hK dX8_set_124 (by decide) ?_
      exact j_iret (pc := 126) hK hQ (nle rfl) (nle rfl) dX8_set_126 (fun h w => ⟨_, rfl, _, _, by clear hK hQ; unfold oSet setLo setHi setA setF; grind, w⟩)
    · refine j_iload_n (pc := 100) hK dX8_set_100 rfl ?_
      refine j_iconst (pc := 101) (v := 4) hK dX8_set_101 (by decide) ?_
      refine j_icmp_ge (pc := 102) (tgt := 113) hK dX8_set_102 (by decide) (fun c102 => ?_) (fun c102 => absurd (by decide) c102)
      try have hb := bo_in (by assumption) h0 h7
      refine j_iload_n (pc := 113) hK dX8_set_113 rfl ?_
      refine j_iload (pc := 114) hK dX8_set_114 rfl ?_
      refine j_iload (pc := 116) hK dX8_set_116 rfl ?_
      refine j_callS (pc := 118) hK hQ (c_Ywithin _ _ _) cal_X8_within q1167 dX8_set_118 rfl rfl (nle rfl) (nle rfl) (nle rfl) (nle rfl) (kr_i fun r118 => ?_) kx_i
      refine J.pre fun e118 => ?_
      subst e118
      refine j_if_ne_b (pc := 121) (tgt := 127) hK dX8_set_121 (by decide) (fun c121 => ?_) (fun c121 => ?_)
      · refine j_iload_n (pc := 127) hK dX8_set_127 rfl ?_
        refine j_tableOut (pc := 128) (tgt := 304) hK dX8_set_128 (by decide) (by decide) ?_
        refine j_aload_n (pc := 304) hK dX8_set_304 rfl ?_
        refine yi_getI (pc := 305) (k := 13) hK (by decide) rfl rfl q1253 rfl dX8_set_305 ?_
        refine j_ist6 (pc := 308) hK dX8_set_308 (by decide) rfl ?_
        refine j_aload_n (pc := 310) hK dX8_set_310 rfl ?_
        refine j_iload_n (pc := 311) hK dX8_set_311 rfl ?_
        refine yi_putI (pc := 312) (k := 13) hK (by decide) rfl rfl (by decide) q1253 rfl rfl rfl rfl dX8_set_312 ?_
        refine j_iload (pc := 315) hK dX8_set_315 rfl ?_
        exact j_iret (pc := 317) hK hQ (nle rfl) (nle rfl) dX8_set_317 (fun h w => ⟨_, rfl, _, _, by clear hK hQ; unfold oSet setLo setHi setA setF; grind, w⟩)
      · refine j_bipush (pc := 124) (v := (-2)) hK dX8_set_124 (by decide) ?_
        exact j_iret (pc := 126) hK hQ (nle rfl) (nle rfl) dX8_set_126 (fun h w => ⟨_, rfl, _, _, by clear hK hQ; unfold oSet setLo setHi setA setF; grind, w⟩)
  · have n0 : ¬ what = 0 := by rintro rfl; exact hw (by decide)
    have n1 : ¬ what = 1 := by rintro rfl; exact hw (by decide)
    have n2 : ¬ what = 2 := by rintro rfl; exact hw (by decide)
    have n4 : ¬ what = 4 := by rintro rfl; exact hw (by decide)
    have n6 : ¬ what = 6 := by rintro rfl; exact hw (by decide)
    have n7 : ¬ what = 7 := by rintro rfl; exact hw (by decide)
    have n8 : ¬ what = 8 := by rintro rfl; exact hw (by decide)
    refine j_iload_n (pc := 0) hK dX8_set_0 rfl ?_
    refine j_iconst (pc := 1) (v := 2) hK dX8_set_1 (by decide) ?_
    refine j_icmp_ne (pc := 2) (tgt := 9) hK dX8_set_2 (by decide) (fun c2 => ?_) (fun c2 => absurd c2 (by assumption))
    refine j_iload_n (pc := 9) hK dX8_set_9 rfl ?_
    refine j_bipush (pc := 10) (v := 6) hK dX8_set_10 (by decide) ?_
    refine j_icmp_eq (pc := 12) (tgt := 21) hK dX8_set_12 (by decide) (fun c12 => absurd c12 (by assumption)) (fun c12 => ?_)
    refine j_iload_n (pc := 15) hK dX8_set_15 rfl ?_
    refine j_bipush (pc := 16) (v := 7) hK dX8_set_16 (by decide) ?_
    refine j_icmp_ne (pc := 18) (tgt := 25) hK dX8_set_18 (by decide) (fun c18 => ?_) (fun c18 => absurd c18 (by assumption))
    refine j_iconst (pc := 25) (v := 0) hK dX8_set_25 (by decide) ?_
    refine j_ist4 (pc := 26) hK dX8_set_26 (by decide) rfl ?_
    refine j_iload_n (pc := 28) hK dX8_set_28 rfl ?_
    refine j_if_eq (pc := 29) (tgt := 37) hK dX8_set_29 (by decide) (fun c29 => absurd c29 (by assumption)) (fun c29 => ?_)
    refine j_iload_n (pc := 32) hK dX8_set_32 rfl ?_
    refine j_iconst (pc := 33) (v := 4) hK dX8_set_33 (by decide) ?_
    refine j_icmp_ne (pc := 34) (tgt := 42) hK dX8_set_34 (by decide) (fun c34 => ?_) (fun c34 => absurd c34 (by assumption))
    refine j_iload_n (pc := 42) hK dX8_set_42 rfl ?_
    refine j_iconst (pc := 43) (v := 1) hK dX8_set_43 (by decide) ?_
    refine j_icmp_ne (pc := 44) (tgt := 53) hK dX8_set_44 (by decide) (fun c44 => ?_) (fun c44 => absurd c44 (by assumption))
    refine j_iload_n (pc := 53) hK dX8_set_53 rfl ?_
    refine j_iconst (pc := 54) (v := 2) hK dX8_set_54 (by decide) ?_
    refine j_icmp_ne (pc := 55) (tgt := 64) hK dX8_set_55 (by decide) (fun c55 => ?_) (fun c55 => absurd c55 (by assumption))
    refine j_iload_n (pc := 64) hK dX8_set_64 rfl ?_
    refine j_bipush (pc := 65) (v := 6) hK dX8_set_65 (by decide) ?_
    refine j_icmp_ne (pc := 67) (tgt := 75) hK dX8_set_67 (by decide) (fun c67 => ?_) (fun c67 => absurd c67 (by assumption))
    refine j_iload_n (pc := 75) hK dX8_set_75 rfl ?_
    refine j_bipush (pc := 76) (v := 8) hK dX8_set_76 (by decide) ?_
    refine j_icmp_ne (pc := 78) (tgt := 86) hK dX8_set_78 (by decide) (fun c78 => ?_) (fun c78 => absurd c78 (by assumption))
    refine j_bipush (pc := 86) (v := 9) hK dX8_set_86 (by decide) ?_
    refine j_ist5 (pc := 88) hK dX8_set_88 (by decide) rfl ?_
    refine j_iload_n (pc := 90) hK dX8_set_90 rfl ?_
    refine j_iconst (pc := 91) (v := 0) hK dX8_set_91 (by decide) ?_
    refine j_bipush (pc := 92) (v := 8) hK dX8_set_92 (by decide) ?_
    refine j_callS (pc := 94) hK hQ (c_Ywithin _ _ _) cal_X8_within q1167 dX8_set_94 rfl rfl (nle rfl) (nle rfl) (nle rfl) (nle rfl) (kr_i fun r94 => ?_) kx_i
    refine J.pre fun e94 => ?_
    subst e94
    refine j_if_eq_b (pc := 97) (tgt := 124) hK dX8_set_97 (by decide) (fun c97 => ?_) (fun c97 => absurd c97 (by assumption))
    refine j_bipush (pc := 124) (v := (-2)) hK dX8_set_124 (by decide) ?_
    exact j_iret (pc := 126) hK hQ (nle rfl) (nle rfl) dX8_set_126 (fun h w => ⟨_, rfl, _, _, by clear hK hQ; unfold oSet setLo setHi setA setF; grind, w⟩)
theorem c_Yfeed (c : Int32) (h0 : 0 ≤ f 15) (h7 : f 15 ≤ 160) : Ct Γ A yX8_feed wX8_feed 2 0 0 [.ref (L 40), .int c] (YI Γ L f g T) (RI (YO Γ L T (oFeed f g c))) := by
  refine Ct.of (cc := cX8_feed) (nL := 2) (ret := (some .int)) (ls := [some (.ref (L 40)), some (.int c)]) rfl rfl rfl (nle rfl) ?_
  intro K hK hQ
  refine j_iload_n (pc := 0) hK dX8_feed_0 rfl ?_
  refine j_iconst (pc := 1) (v := 0) hK dX8_feed_1 (by decide) ?_
  refine j_sipush (pc := 2) (v := 255) hK dX8_feed_2 (by decide) ?_
  refine j_callS (pc := 5) hK hQ (c_Ywithin _ _ _) cal_X8_within q1167 dX8_feed_5 rfl rfl (nle rfl) (nle rfl) (nle rfl) (nle rfl) (kr_i fun r5 => ?_) kx_i
  refine J.pre fun e5 => ?_
  subst e5
  refine j_if_ne_b (pc := 8) (tgt := 14) hK dX8_feed_8 (by decide) (fun c8 => ?_) (fun c8 => ?_)
  · refine j_aload_n (pc := 14) hK dX8_feed_14 rfl ?_
    refine yi_getI (pc := 15) (k := 15) hK (by decide) rfl rfl q1255 rfl dX8_feed_15 ?_
    refine j_sipush (pc := 18) (v := 160) hK dX8_feed_18 (by decide) ?_
    refine j_icmp_ne (pc := 21) (tgt := 27) hK dX8_feed_21 (by decide) (fun c21 => ?_) (fun c21 => ?_)
    · have hb : vp_in (f 15) 160 := inb_of h0 (by rw [show nI 160 = (160 : Int32) by decide]; grind) (by decide)
      refine j_aload_n (pc := 27) hK dX8_feed_27 rfl ?_
      refine yi_getR (pc := 28) (k := 16) hK (by decide) rfl q1256 rfl dX8_feed_28 ?_
      refine j_aload_n (pc := 31) hK dX8_feed_31 rfl ?_
      refine j_dup (pc := 32) hK dX8_feed_32 rfl ?_
      refine yi_getI (pc := 33) (k := 15) hK (by decide) rfl rfl q1255 rfl dX8_feed_33 ?_
      refine j_dup_x1 (pc := 36) hK dX8_feed_36 rfl rfl ?_
      refine j_iconst (pc := 37) (v := 1) hK dX8_feed_37 (by decide) ?_
      refine j_iadd (pc := 38) hK dX8_feed_38 ?_
      refine yi_putI (pc := 39) (k := 15) hK (by decide) rfl rfl (by decide) q1255 rfl rfl rfl rfl dX8_feed_39 ?_
      refine j_iload_n (pc := 42) hK dX8_feed_42 rfl ?_
      refine yi_ast (pc := 43) (k := 16) hK rfl rfl (by decide) (by decide) (by first | assumption | exact vp_in_c (by decide)) dX8_feed_43 ?_
      refine j_aload_n (pc := 44) hK dX8_feed_44 rfl ?_
      refine yi_getI (pc := 45) (k := 15) hK (by decide) rfl rfl q1255 rfl dX8_feed_45 ?_
      exact j_iret (pc := 48) hK hQ (nle rfl) (nle rfl) dX8_feed_48 (fun h w => ⟨_, rfl, _, _, by simp [oFeed, upd, *], w⟩)
    · refine j_bipush (pc := 24) (v := (-4)) hK dX8_feed_24 (by decide) ?_
      exact j_iret (pc := 26) hK hQ (nle rfl) (nle rfl) dX8_feed_26 (fun h w => ⟨_, rfl, _, _, by simp [oFeed, upd, *], w⟩)
  · refine j_bipush (pc := 11) (v := (-2)) hK dX8_feed_11 (by decide) ?_
    exact j_iret (pc := 13) hK hQ (nle rfl) (nle rfl) dX8_feed_13 (fun h w => ⟨_, rfl, _, _, by simp [oFeed, upd, *], w⟩)
theorem c_Yforce (t : Int32) : Ct Γ A yX8_force wX8_force 2 0 0 [.ref (L 40), .int t] (YI Γ L f g T) (RI (YO Γ L T (oForce f g t))) := by
  refine Ct.of (cc := cX8_force) (nL := 3) (ret := (some .int)) (ls := [some (.ref (L 40)), some (.int t), none]) rfl rfl rfl (nle rfl) ?_
  intro K hK hQ
  refine j_iload_n (pc := 0) hK dX8_force_0 rfl ?_
  refine j_iconst (pc := 1) (v := 0) hK dX8_force_1 (by decide) ?_
  refine j_aload_n (pc := 2) hK dX8_force_2 rfl ?_
  refine yi_getI (pc := 3) (k := 17) hK (by decide) rfl rfl q1257 rfl dX8_force_3 ?_
  refine j_iconst (pc := 6) (v := 1) hK dX8_force_6 (by decide) ?_
  refine j_isub (pc := 7) hK dX8_force_7 ?_
  refine j_callS (pc := 8) hK hQ (c_Ywithin _ _ _) cal_X8_within q1167 dX8_force_8 rfl rfl (nle rfl) (nle rfl) (nle rfl) (nle rfl) (kr_i fun r8 => ?_) kx_i
  refine J.pre fun e8 => ?_
  subst e8
  refine j_if_ne_b (pc := 11) (tgt := 17) hK dX8_force_11 (by decide) (fun c11 => ?_) (fun c11 => ?_)
  · refine j_aload_n (pc := 17) hK dX8_force_17 rfl ?_
    refine yi_getI (pc := 18) (k := 18) hK (by decide) rfl rfl q1258 rfl dX8_force_18 ?_
    refine j_ist2 (pc := 21) hK dX8_force_21 (by decide) rfl ?_
    refine j_aload_n (pc := 22) hK dX8_force_22 rfl ?_
    refine j_iload_n (pc := 23) hK dX8_force_23 rfl ?_
    refine yi_putI (pc := 24) (k := 18) hK (by decide) rfl rfl (by decide) q1258 rfl rfl rfl rfl dX8_force_24 ?_
    refine j_iload_n (pc := 27) hK dX8_force_27 rfl ?_
    exact j_iret (pc := 28) hK hQ (nle rfl) (nle rfl) dX8_force_28 (fun h w => ⟨_, rfl, _, _, by simp [oForce, *], w⟩)
  · refine j_bipush (pc := 14) (v := (-2)) hK dX8_force_14 (by decide) ?_
    exact j_iret (pc := 16) hK hQ (nle rfl) (nle rfl) dX8_force_16 (fun h w => ⟨_, rfl, _, _, by simp [oForce, *], w⟩)
end Y3
