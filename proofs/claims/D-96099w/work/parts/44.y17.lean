/-! the reference reads: not, one; all of them -/
set_option maxRecDepth 100000
section Y17
variable {Γ : Gam} {A : Nat → Prop} {L : Nat → Nat} {f : Nat → Int32} {g : Nat → Int32 → Int32} {T : TX} {B : Int32 → Int32} {n tx m : Nat}
theorem opn5 {o : Nat} (ho : o ≤ 5) : nI o = 5 ↔ o = 5 := by
  rw [show (5 : Int32) = nI 5 by decide, nI_eq (by omega) (by decide)]
theorem s_Ynot (hn : f 15 = nI n) (hn2 : n ≤ 160) (h17 : f 17 = nI tx) (htx : tx < 6) (IHn : YCn Γ A L f g T n B m) (IHs : YCs Γ A L f g T n B m) : YCn Γ A L f g T n B (m + 1) := by
  intro p o c0 x hp hc0 ho hx
  rw [pr_4] at hx
  refine Ct.of (cc := cX8_not) (nL := 2) (ret := (some .boolean)) (ls := [some (.ref (L 40)), none]) rfl rfl rfl (nle rfl) ?_
  intro K hK hQ
  obtain ⟨a214, v214, hev214, hS214⟩ := ls_X8_214 hK.g
  have hE := en_le (t := tp g) hp
  by_cases hw : isW (tp g) n p wNot
  · rw [if_pos hw] at hx
    have hgt := en_gt hp (isW_0 hw)
    by_cases h5 : o = 5
    · rw [if_pos h5] at hx
      cases hx
      refine j_aload_n (pc := 0) hK dX8_not_0 rfl ?_
      refine j_ldcs (pc := 1) hK q1205 hev214 dX8_not_1 ?_
      refine j_callV (pc := 3) hK hQ (c_Yis hS214 (by decide) hn2 hp) cal_X8_is yp_isC q1189 dX8_not_3 rfl rfl (by omega) (nle rfl) (nle rfl) (nle rfl) (kr_i fun r3 => ?_) kx_i
      refine J.pre fun e3 => ?_
      subst e3
      refine j_if_eq_b (pc := 6) (tgt := 60) hK dX8_not_6 (by decide) (fun c6 => absurd hw c6) (fun c6 => ?_)
      refine yp_open fun f1 g1 hc ht => ?_
      refine j_aload_n (pc := 9) hK dX8_not_9 rfl ?_
      refine y_getI (pc := 10) (k := 26) hK (by decide) rfl q1266 rfl dX8_not_10 ?_
      refine j_iconst (pc := 13) (v := 5) hK dX8_not_13 (by decide) ?_
      refine j_icmp_ne (pc := 14) (tgt := 19) hK dX8_not_14 (by decide) (fun c14 => absurd (by rw [hc.2.2.1]; exact (opn5 ho).mpr h5) c14) (fun c14 => ?_)
      refine j_iconst (pc := 17) (v := 0) hK dX8_not_17 (by decide) ?_
      exact j_bret (pc := 18) hK hQ (nle rfl) (nle rfl) dX8_not_18 (fun h w => ⟨Or.inl rfl, ⟨_, rfl, rfl, _, _, _, _, w, hc, ht⟩⟩)
    · rw [if_neg h5] at hx
      rcases ap_c hx with ⟨u, e1, rfl⟩ | ⟨u, c, e1, rfl⟩
      · have hb : Ct Γ A yX8_not wX8_not (7 * (5 - (o + 1)) + 10) 0 0 [.ref (L 40)] (YP Γ L f g T n B c0 (o + 1) (enP (tp g) n p)) (RI fun r h => r = b2i False ∧ YB Γ L f g T n B u h) := IHn _ _ _ _ hE.2.1 (by omega) (by omega) e1
        refine j_aload_n (pc := 0) hK dX8_not_0 rfl ?_
        refine j_ldcs (pc := 1) hK q1205 hev214 dX8_not_1 ?_
        refine j_callV (pc := 3) hK hQ (c_Yis hS214 (by decide) hn2 hp) cal_X8_is yp_isC q1189 dX8_not_3 rfl rfl (by omega) (nle rfl) (nle rfl) (nle rfl) (kr_i fun r3 => ?_) kx_i
        refine J.pre fun e3 => ?_
        subst e3
        refine j_if_eq_b (pc := 6) (tgt := 60) hK dX8_not_6 (by decide) (fun c6 => absurd hw c6) (fun c6 => ?_)
        refine yp_open fun f1 g1 hc ht => ?_
        refine j_aload_n (pc := 9) hK dX8_not_9 rfl ?_
        refine y_getI (pc := 10) (k := 26) hK (by decide) rfl q1266 rfl dX8_not_10 ?_
        refine j_iconst (pc := 13) (v := 5) hK dX8_not_13 (by decide) ?_
        refine j_icmp_ne (pc := 14) (tgt := 19) hK dX8_not_14 (by decide) (fun c14 => ?_) (fun c14 => absurd c14 (by rw [hc.2.2.1]; exact fun z => h5 ((opn5 ho).mp z)))
        refine j_aload_n (pc := 19) hK dX8_not_19 rfl ?_
        refine j_dup (pc := 20) hK dX8_not_20 rfl ?_
        refine y_getI (pc := 21) (k := 26) hK (by decide) rfl q1266 rfl dX8_not_21 ?_
        refine j_iconst (pc := 24) (v := 1) hK dX8_not_24 (by decide) ?_
        refine j_iadd (pc := 25) hK dX8_not_25 ?_
        refine y_putI (pc := 26) (k := 26) hK (by decide) rfl q1266 rfl rfl rfl rfl dX8_not_26 ?_
        refine j_aload_n (pc := 29) hK dX8_not_29 rfl ?_
        refine J.mono (P' := YN Γ L f g T B c0 (o + 1) (enP (tp g) n p)) (fun h w => ⟨_, _, w, hc.opn (o + 1) (by rw [hc.2.2.1, nI_1]), ht.1⟩) ?_
        refine j_callV (pc := 30) hK hQ (c_Ynext hn hn2 hE.2.1) cal_X8_next yn_isC q1174 dX8_not_30 rfl rfl (by omega) (nle rfl) (nle rfl) (nle rfl) (kr_v ?_) kx_v
        refine j_aload_n (pc := 33) hK dX8_not_33 rfl ?_
        refine j_callV (pc := 34) hK hQ (hb) cal_X8_not yp_isC q1201 dX8_not_34 rfl rfl (by omega) (nle rfl) (nle rfl) (nle rfl) (kr_i fun r34 => ?_) kx_i
        refine J.pre fun e34 => ?_
        subst e34
        refine j_if_ne_b (pc := 37) (tgt := 42) hK dX8_not_37 (by decide) (fun c37 => absurd c37 (fun z => z)) (fun c37 => ?_)
        refine j_iconst (pc := 40) (v := 0) hK dX8_not_40 (by decide) ?_
        exact j_bret (pc := 41) hK hQ (nle rfl) (nle rfl) dX8_not_41 (fun h w => ⟨Or.inl rfl, ⟨_, rfl, rfl, w⟩⟩)
      · have hl := (pr_len _ _ _ _ _ hE.2.1 e1)
        have hl1 := hl.2.1
        have hl2 := hl.2.2 c rfl
        simp only at hl1 hl2
        have hb : Ct Γ A yX8_not wX8_not (7 * (5 - (o + 1)) + 10) 0 0 [.ref (L 40)] (YP Γ L f g T n B c0 (o + 1) (enP (tp g) n p)) (RI fun r h => r = b2i True ∧ YP Γ L f g T n B (c0 ++ c) (o + 1) u h) := IHn _ _ _ _ hE.2.1 (by omega) (by omega) e1
        refine j_aload_n (pc := 0) hK dX8_not_0 rfl ?_
        refine j_ldcs (pc := 1) hK q1205 hev214 dX8_not_1 ?_
        refine j_callV (pc := 3) hK hQ (c_Yis hS214 (by decide) hn2 hp) cal_X8_is yp_isC q1189 dX8_not_3 rfl rfl (by omega) (nle rfl) (nle rfl) (nle rfl) (kr_i fun r3 => ?_) kx_i
        refine J.pre fun e3 => ?_
        subst e3
        refine j_if_eq_b (pc := 6) (tgt := 60) hK dX8_not_6 (by decide) (fun c6 => absurd hw c6) (fun c6 => ?_)
        refine yp_open fun f1 g1 hc ht => ?_
        refine j_aload_n (pc := 9) hK dX8_not_9 rfl ?_
        refine y_getI (pc := 10) (k := 26) hK (by decide) rfl q1266 rfl dX8_not_10 ?_
        refine j_iconst (pc := 13) (v := 5) hK dX8_not_13 (by decide) ?_
        refine j_icmp_ne (pc := 14) (tgt := 19) hK dX8_not_14 (by decide) (fun c14 => ?_) (fun c14 => absurd c14 (by rw [hc.2.2.1]; exact fun z => h5 ((opn5 ho).mp z)))
        refine j_aload_n (pc := 19) hK dX8_not_19 rfl ?_
        refine j_dup (pc := 20) hK dX8_not_20 rfl ?_
        refine y_getI (pc := 21) (k := 26) hK (by decide) rfl q1266 rfl dX8_not_21 ?_
        refine j_iconst (pc := 24) (v := 1) hK dX8_not_24 (by decide) ?_
        refine j_iadd (pc := 25) hK dX8_not_25 ?_
        refine y_putI (pc := 26) (k := 26) hK (by decide) rfl q1266 rfl rfl rfl rfl dX8_not_26 ?_
        refine j_aload_n (pc := 29) hK dX8_not_29 rfl ?_
        refine J.mono (P' := YN Γ L f g T B c0 (o + 1) (enP (tp g) n p)) (fun h w => ⟨_, _, w, hc.opn (o + 1) (by rw [hc.2.2.1, nI_1]), ht.1⟩) ?_
        refine j_callV (pc := 30) hK hQ (c_Ynext hn hn2 hE.2.1) cal_X8_next yn_isC q1174 dX8_not_30 rfl rfl (by omega) (nle rfl) (nle rfl) (nle rfl) (kr_v ?_) kx_v
        refine j_aload_n (pc := 33) hK dX8_not_33 rfl ?_
        refine j_callV (pc := 34) hK hQ (hb) cal_X8_not yp_isC q1201 dX8_not_34 rfl rfl (by omega) (nle rfl) (nle rfl) (nle rfl) (kr_i fun r34 => ?_) kx_i
        refine J.pre fun e34 => ?_
        subst e34
        refine j_if_ne_b (pc := 37) (tgt := 42) hK dX8_not_37 (by decide) (fun c37 => ?_) (fun c37 => absurd trivial c37)
        refine yp_open fun f2 g2 hc2 ht2 => ?_
        refine j_aload_n (pc := 42) hK dX8_not_42 rfl ?_
        refine j_dup (pc := 43) hK dX8_not_43 rfl ?_
        refine y_getI (pc := 44) (k := 26) hK (by decide) rfl q1266 rfl dX8_not_44 ?_
        refine j_iconst (pc := 47) (v := 1) hK dX8_not_47 (by decide) ?_
        refine j_isub (pc := 48) hK dX8_not_48 ?_
        refine y_putI (pc := 49) (k := 26) hK (by decide) rfl q1266 rfl rfl rfl rfl dX8_not_49 ?_
        refine j_aload_n (pc := 52) hK dX8_not_52 rfl ?_
        refine j_bipush (pc := 53) (v := (-13)) hK dX8_not_53 (by decide) ?_
        refine J.mono (P' := YP Γ L f g T n B (c0 ++ c) o u) (fun h w => ⟨_, _, w, hc2.opn o (by rw [hc2.2.2.1, nI_pred]), ht2⟩) ?_
        refine j_callV (pc := 55) hK hQ (c_Yput _ h17 htx (by simp only [List.length_append]; omega)) cal_X8_put yp_isC q1206 dX8_not_55 rfl rfl (by omega) (nle rfl) (nle rfl) (nle rfl) (kr_v ?_) kx_v
        refine j_iconst (pc := 58) (v := 1) hK dX8_not_58 (by decide) ?_
        exact j_bret (pc := 59) hK hQ (nle rfl) (nle rfl) dX8_not_59 (fun h w => ⟨Or.inr rfl, YZ.ok w (List.append_assoc _ _ _)⟩)
  · rw [if_neg hw] at hx
    rcases sq_x hx with ⟨q, e1, rfl⟩ | ⟨q, c, y, e1, e2, e3⟩
    · have hb : Ct Γ A yX8_sum wX8_sum (7 * (5 - o) + 9) 0 0 [.ref (L 40)] (YP Γ L f g T n B c0 o p) (RI fun r h => r = b2i False ∧ YB Γ L f g T n B q h) := IHs _ _ _ _ hp hc0 ho e1
      refine j_aload_n (pc := 0) hK dX8_not_0 rfl ?_
      refine j_ldcs (pc := 1) hK q1205 hev214 dX8_not_1 ?_
      refine j_callV (pc := 3) hK hQ (c_Yis hS214 (by decide) hn2 hp) cal_X8_is yp_isC q1189 dX8_not_3 rfl rfl (by omega) (nle rfl) (nle rfl) (nle rfl) (kr_i fun r3 => ?_) kx_i
      refine J.pre fun e3 => ?_
      subst e3
      refine j_if_eq_b (pc := 6) (tgt := 60) hK dX8_not_6 (by decide) (fun c6 => ?_) (fun c6 => absurd c6 hw)
      refine j_aload_n (pc := 60) hK dX8_not_60 rfl ?_
      refine j_callV (pc := 61) hK hQ (hb) cal_X8_sum yp_isC q1210 dX8_not_61 rfl rfl (by omega) (nle rfl) (nle rfl) (nle rfl) (kr_i fun r61 => ?_) kx_i
      refine J.pre fun e61 => ?_
      subst e61
      refine j_if_ne_b (pc := 64) (tgt := 69) hK dX8_not_64 (by decide) (fun c64 => absurd c64 (fun z => z)) (fun c64 => ?_)
      refine j_iconst (pc := 67) (v := 0) hK dX8_not_67 (by decide) ?_
      exact j_bret (pc := 68) hK hQ (nle rfl) (nle rfl) dX8_not_68 (fun h w => ⟨Or.inl rfl, ⟨_, rfl, rfl, w⟩⟩)
    · have hl := (pr_len _ _ _ _ _ hp e1)
      have hl1 := hl.2.1
      have hl2 := hl.2.2 c rfl
      simp only at hl1 hl2
      have hb : Ct Γ A yX8_sum wX8_sum (7 * (5 - o) + 9) 0 0 [.ref (L 40)] (YP Γ L f g T n B c0 o p) (RI fun r h => r = b2i True ∧ YP Γ L f g T n B (c0 ++ c) o q h) := IHs _ _ _ _ hp hc0 ho e1
      by_cases hs : isS (tp g) n q 60 ∨ isS (tp g) n q 61
      · rw [if_pos hs] at e2
        have hE2 := en_le (t := tp g) hl1
        have hgt := en_gt hl1 (hs.elim isS_0 isS_0)
        have rest : ∀ v : Int32, v = (if isS (tp g) n q 60 then -14 else -15) → J Γ A K 104 [some (.ref (L 40)), some (.int v)] [] (YP Γ L f g T n B (c0 ++ c) o q) 0 0 := by
          clear hb
          intro v hv
          rw [← hv] at e2
          rcases ap_c e2 with ⟨u, e4, rfl⟩ | ⟨u, d, e4, rfl⟩
          · have hb : Ct Γ A yX8_sum wX8_sum (7 * (5 - o) + 9) 0 0 [.ref (L 40)] (YP Γ L f g T n B (c0 ++ c) o (enP (tp g) n q)) (RI fun r h => r = b2i False ∧ YB Γ L f g T n B u h) := IHs _ _ _ _ hE2.2.1 (by rw [List.length_append]; omega) ho e4
            refine j_aload_n (pc := 104) hK dX8_not_104 rfl ?_
            refine J.mono (fun h w => YP.toN w) ?_
            refine j_callV (pc := 105) hK hQ (c_Ynext hn hn2 hE2.2.1) cal_X8_next yn_isC q1174 dX8_not_105 rfl rfl (by omega) (nle rfl) (nle rfl) (nle rfl) (kr_v ?_) kx_v
            refine j_aload_n (pc := 108) hK dX8_not_108 rfl ?_
            refine j_callV (pc := 109) hK hQ (hb) cal_X8_sum yp_isC q1210 dX8_not_109 rfl rfl (by omega) (nle rfl) (nle rfl) (nle rfl) (kr_i fun r109 => ?_) kx_i
            refine J.pre fun e109 => ?_
            subst e109
            refine j_if_ne_b (pc := 112) (tgt := 117) hK dX8_not_112 (by decide) (fun c112 => absurd c112 (fun z => z)) (fun c112 => ?_)
            refine j_iconst (pc := 115) (v := 0) hK dX8_not_115 (by decide) ?_
            exact j_bret (pc := 116) hK hQ (nle rfl) (nle rfl) dX8_not_116 (fun h w => ⟨Or.inl rfl, by rw [← e3 c0]; exact ⟨_, rfl, rfl, w⟩⟩)
          · have hm := (pr_len _ _ _ _ _ hE2.2.1 e4)
            have hm1 := hm.2.1
            have hm2 := hm.2.2 d rfl
            simp only at hm1 hm2
            have hb : Ct Γ A yX8_sum wX8_sum (7 * (5 - o) + 9) 0 0 [.ref (L 40)] (YP Γ L f g T n B (c0 ++ c) o (enP (tp g) n q)) (RI fun r h => r = b2i True ∧ YP Γ L f g T n B (c0 ++ c ++ d) o u h) := IHs _ _ _ _ hE2.2.1 (by rw [List.length_append]; omega) ho e4
            refine j_aload_n (pc := 104) hK dX8_not_104 rfl ?_
            refine J.mono (fun h w => YP.toN w) ?_
            refine j_callV (pc := 105) hK hQ (c_Ynext hn hn2 hE2.2.1) cal_X8_next yn_isC q1174 dX8_not_105 rfl rfl (by omega) (nle rfl) (nle rfl) (nle rfl) (kr_v ?_) kx_v
            refine j_aload_n (pc := 108) hK dX8_not_108 rfl ?_
            refine j_callV (pc := 109) hK hQ (hb) cal_X8_sum yp_isC q1210 dX8_not_109 rfl rfl (by omega) (nle rfl) (nle rfl) (nle rfl) (kr_i fun r109 => ?_) kx_i
            refine J.pre fun e109 => ?_
            subst e109
            refine j_if_ne_b (pc := 112) (tgt := 117) hK dX8_not_112 (by decide) (fun c112 => ?_) (fun c112 => absurd trivial c112)
            refine j_aload_n (pc := 117) hK dX8_not_117 rfl ?_
            refine j_iload_n (pc := 118) hK dX8_not_118 rfl ?_
            refine j_callV (pc := 119) hK hQ (c_Yput _ h17 htx (by simp only [List.length_append]; omega)) cal_X8_put yp_isC q1206 dX8_not_119 rfl rfl (by omega) (nle rfl) (nle rfl) (nle rfl) (kr_v ?_) kx_v
            refine j_iconst (pc := 122) (v := 1) hK dX8_not_122 (by decide) ?_
            exact j_bret (pc := 123) hK hQ (nle rfl) (nle rfl) dX8_not_123 (fun h w => ⟨Or.inr rfl, by rw [← e3 c0]; exact YZ.ok w (List.append_assoc _ _ _)⟩)
        refine j_aload_n (pc := 0) hK dX8_not_0 rfl ?_
        refine j_ldcs (pc := 1) hK q1205 hev214 dX8_not_1 ?_
        refine j_callV (pc := 3) hK hQ (c_Yis hS214 (by decide) hn2 hp) cal_X8_is yp_isC q1189 dX8_not_3 rfl rfl (by omega) (nle rfl) (nle rfl) (nle rfl) (kr_i fun r3 => ?_) kx_i
        refine J.pre fun e3 => ?_
        subst e3
        refine j_if_eq_b (pc := 6) (tgt := 60) hK dX8_not_6 (by decide) (fun c6 => ?_) (fun c6 => absurd c6 hw)
        refine j_aload_n (pc := 60) hK dX8_not_60 rfl ?_
        refine j_callV (pc := 61) hK hQ (hb) cal_X8_sum yp_isC q1210 dX8_not_61 rfl rfl (by omega) (nle rfl) (nle rfl) (nle rfl) (kr_i fun r61 => ?_) kx_i
        refine J.pre fun e61 => ?_
        subst e61
        refine j_if_ne_b (pc := 64) (tgt := 69) hK dX8_not_64 (by decide) (fun c64 => ?_) (fun c64 => absurd trivial c64)
        refine j_aload_n (pc := 69) hK dX8_not_69 rfl ?_
        refine j_bipush (pc := 70) (v := 60) hK dX8_not_70 (by decide) ?_
        refine j_callV (pc := 72) hK hQ (c_Yis2 _) cal_X8_is_2 yp_isC q1232 dX8_not_72 rfl rfl (by omega) (nle rfl) (nle rfl) (nle rfl) (kr_i fun r72 => ?_) kx_i
        refine J.pre fun e72 => ?_
        subst e72
        refine j_if_ne_b (pc := 75) (tgt := 87) hK dX8_not_75 (by decide) (fun c75 => ?_) (fun c75 => ?_)
        · refine j_aload_n (pc := 87) hK dX8_not_87 rfl ?_
          refine j_bipush (pc := 88) (v := 60) hK dX8_not_88 (by decide) ?_
          refine j_callV (pc := 90) hK hQ (c_Yis2 _) cal_X8_is_2 yp_isC q1232 dX8_not_90 rfl rfl (by omega) (nle rfl) (nle rfl) (nle rfl) (kr_i fun r90 => ?_) kx_i
          refine J.pre fun e90 => ?_
          subst e90
          refine j_if_eq_b (pc := 93) (tgt := 101) hK dX8_not_93 (by decide) (fun c93 => ?_) (fun c93 => ?_)
          · refine j_bipush (pc := 101) (v := (-15)) hK dX8_not_101 (by decide) ?_
            refine j_ist1 (pc := 103) hK dX8_not_103 (by decide) rfl ?_
            first | exact rest _ (if_pos c93).symm | exact rest _ (if_neg c93).symm
          · refine j_bipush (pc := 96) (v := (-14)) hK dX8_not_96 (by decide) ?_
            refine j_goto (pc := 98) (tgt := 103) hK dX8_not_98 (by decide) ?_
            refine j_ist1 (pc := 103) hK dX8_not_103 (by decide) rfl ?_
            first | exact rest _ (if_pos c93).symm | exact rest _ (if_neg c93).symm
        · refine j_aload_n (pc := 78) hK dX8_not_78 rfl ?_
          refine j_bipush (pc := 79) (v := 61) hK dX8_not_79 (by decide) ?_
          refine j_callV (pc := 81) hK hQ (c_Yis2 _) cal_X8_is_2 yp_isC q1232 dX8_not_81 rfl rfl (by omega) (nle rfl) (nle rfl) (nle rfl) (kr_i fun r81 => ?_) kx_i
          refine J.pre fun e81 => ?_
          subst e81
          refine j_if_eq_b (pc := 84) (tgt := 122) hK dX8_not_84 (by decide) (fun c84 => ?_) (fun c84 => ?_)
          · exact absurd hs (fun z => z.elim c75 c84)
          · refine j_aload_n (pc := 87) hK dX8_not_87 rfl ?_
            refine j_bipush (pc := 88) (v := 60) hK dX8_not_88 (by decide) ?_
            refine j_callV (pc := 90) hK hQ (c_Yis2 _) cal_X8_is_2 yp_isC q1232 dX8_not_90 rfl rfl (by omega) (nle rfl) (nle rfl) (nle rfl) (kr_i fun r90 => ?_) kx_i
            refine J.pre fun e90 => ?_
            subst e90
            refine j_if_eq_b (pc := 93) (tgt := 101) hK dX8_not_93 (by decide) (fun c93 => ?_) (fun c93 => ?_)
            · refine j_bipush (pc := 101) (v := (-15)) hK dX8_not_101 (by decide) ?_
              refine j_ist1 (pc := 103) hK dX8_not_103 (by decide) rfl ?_
              first | exact rest _ (if_pos c93).symm | exact rest _ (if_neg c93).symm
            · refine j_bipush (pc := 96) (v := (-14)) hK dX8_not_96 (by decide) ?_
              refine j_goto (pc := 98) (tgt := 103) hK dX8_not_98 (by decide) ?_
              refine j_ist1 (pc := 103) hK dX8_not_103 (by decide) rfl ?_
              first | exact rest _ (if_pos c93).symm | exact rest _ (if_neg c93).symm
      · rw [if_neg hs] at e2
        cases e2
        refine j_aload_n (pc := 0) hK dX8_not_0 rfl ?_
        refine j_ldcs (pc := 1) hK q1205 hev214 dX8_not_1 ?_
        refine j_callV (pc := 3) hK hQ (c_Yis hS214 (by decide) hn2 hp) cal_X8_is yp_isC q1189 dX8_not_3 rfl rfl (by omega) (nle rfl) (nle rfl) (nle rfl) (kr_i fun r3 => ?_) kx_i
        refine J.pre fun e3 => ?_
        subst e3
        refine j_if_eq_b (pc := 6) (tgt := 60) hK dX8_not_6 (by decide) (fun c6 => ?_) (fun c6 => absurd c6 hw)
        refine j_aload_n (pc := 60) hK dX8_not_60 rfl ?_
        refine j_callV (pc := 61) hK hQ (hb) cal_X8_sum yp_isC q1210 dX8_not_61 rfl rfl (by omega) (nle rfl) (nle rfl) (nle rfl) (kr_i fun r61 => ?_) kx_i
        refine J.pre fun e61 => ?_
        subst e61
        refine j_if_ne_b (pc := 64) (tgt := 69) hK dX8_not_64 (by decide) (fun c64 => ?_) (fun c64 => absurd trivial c64)
        refine j_aload_n (pc := 69) hK dX8_not_69 rfl ?_
        refine j_bipush (pc := 70) (v := 60) hK dX8_not_70 (by decide) ?_
        refine j_callV (pc := 72) hK hQ (c_Yis2 _) cal_X8_is_2 yp_isC q1232 dX8_not_72 rfl rfl (by omega) (nle rfl) (nle rfl) (nle rfl) (kr_i fun r72 => ?_) kx_i
        refine J.pre fun e72 => ?_
        subst e72
        refine j_if_ne_b (pc := 75) (tgt := 87) hK dX8_not_75 (by decide) (fun c75 => ?_) (fun c75 => ?_)
        · exact absurd (by first | exact Or.inl c75 | exact Or.inr c84) hs
        · refine j_aload_n (pc := 78) hK dX8_not_78 rfl ?_
          refine j_bipush (pc := 79) (v := 61) hK dX8_not_79 (by decide) ?_
          refine j_callV (pc := 81) hK hQ (c_Yis2 _) cal_X8_is_2 yp_isC q1232 dX8_not_81 rfl rfl (by omega) (nle rfl) (nle rfl) (nle rfl) (kr_i fun r81 => ?_) kx_i
          refine J.pre fun e81 => ?_
          subst e81
          refine j_if_eq_b (pc := 84) (tgt := 122) hK dX8_not_84 (by decide) (fun c84 => ?_) (fun c84 => ?_)
          · refine j_iconst (pc := 122) (v := 1) hK dX8_not_122 (by decide) ?_
            exact j_bret (pc := 123) hK hQ (nle rfl) (nle rfl) dX8_not_123 (fun h w => ⟨Or.inr rfl, by rw [← e3 c0]; exact YZ.ok w (List.append_nil _).symm⟩)
          · exact absurd (by first | exact Or.inl c75 | exact Or.inr c84) hs
theorem s_Yone (hn : f 15 = nI n) (hn2 : n ≤ 160) (h17 : f 17 = nI tx) (htx : tx < 6) (IHo : YCo Γ A L f g T n B m) (IHa : YCa Γ A L f g T n B m) : YCo Γ A L f g T n B (m + 1) := by
  intro p o c0 x hp hc0 ho hx
  have hx := (pr_9 (tp g) n m p o 0).symm.trans hx
  refine Ct.of (cc := cX8_one) (nL := 2) (ret := (some .boolean)) (ls := [some (.ref (L 40)), none]) rfl rfl rfl (nle rfl) ?_
  intro K hK hQ
  have hE := en_le (t := tp g) hp
  by_cases h1 : soP (tp g) n p = 1
  · rw [if_pos h1] at hx
    cases hx
    refine yp_open fun f1 g1 hc ht => ?_
    refine j_aload_n (pc := 0) hK dX8_one_0 rfl ?_
    refine y_getI (pc := 1) (k := 24) hK (by decide) rfl q1264 rfl dX8_one_1 ?_
    refine j_iconst (pc := 4) (v := 1) hK dX8_one_4 (by decide) ?_
    refine j_icmp_ne (pc := 5) (tgt := 22) hK dX8_one_5 (by decide) (fun c5 => absurd (by rw [ht.2.2.1]; exact h1) c5) (fun c5 => ?_)
    refine j_aload_n (pc := 8) hK dX8_one_8 rfl ?_
    refine j_aload_n (pc := 9) hK dX8_one_9 rfl ?_
    refine y_getI (pc := 10) (k := 25) hK (by decide) rfl q1265 rfl dX8_one_10 ?_
    rw [ht.2.2.2 (Or.inl h1)]
    refine J.mono (P' := YP Γ L f g T n B c0 o p) (fun h w => ⟨_, _, w, hc, ht⟩) ?_
    refine j_callV (pc := 13) hK hQ (c_Yput _ h17 htx (by omega)) cal_X8_put yp_isC q1206 dX8_one_13 rfl rfl (by omega) (nle rfl) (nle rfl) (nle rfl) (kr_v ?_) kx_v
    refine j_aload_n (pc := 16) hK dX8_one_16 rfl ?_
    refine J.mono (fun h w => YP.toN w) ?_
    refine j_callV (pc := 17) hK hQ (c_Ynext hn hn2 hE.2.1) cal_X8_next yn_isC q1174 dX8_one_17 rfl rfl (by omega) (nle rfl) (nle rfl) (nle rfl) (kr_v ?_) kx_v
    refine j_iconst (pc := 20) (v := 1) hK dX8_one_20 (by decide) ?_
    exact j_bret (pc := 21) hK hQ (nle rfl) (nle rfl) dX8_one_21 (fun h w => ⟨Or.inr rfl, YZ.ok w rfl⟩)
  · rw [if_neg h1] at hx
    by_cases h2 : 0 < nmP (tp g) n p
    · rw [if_pos h2] at hx
      cases hx
      refine yp_open fun f1 g1 hc ht => ?_
      refine j_aload_n (pc := 0) hK dX8_one_0 rfl ?_
      refine y_getI (pc := 1) (k := 24) hK (by decide) rfl q1264 rfl dX8_one_1 ?_
      refine j_iconst (pc := 4) (v := 1) hK dX8_one_4 (by decide) ?_
      refine j_icmp_ne (pc := 5) (tgt := 22) hK dX8_one_5 (by decide) (fun c5 => ?_) (fun c5 => absurd c5 (by rw [ht.2.2.1]; exact h1))
      refine j_aload_n (pc := 22) hK dX8_one_22 rfl ?_
      refine J.mono (P' := YP Γ L f g T n B c0 o p) (fun h w => ⟨_, _, w, hc, ht⟩) ?_
      refine j_callV (pc := 23) hK hQ (c_Yname hn2 hp) cal_X8_name yp_isC q1222 dX8_one_23 rfl rfl (by omega) (nle rfl) (nle rfl) (nle rfl) (kr_i fun r23 => ?_) kx_i
      refine J.pre fun e23 => ?_
      subst e23
      refine j_ist1 (pc := 26) hK dX8_one_26 (by decide) rfl ?_
      refine j_iload_n (pc := 27) hK dX8_one_27 rfl ?_
      refine j_if_le (pc := 28) (tgt := 43) hK dX8_one_28 (by decide) (fun c28 => absurd c28 (Int32.not_le.mpr h2)) (fun c28 => ?_)
      refine j_aload_n (pc := 31) hK dX8_one_31 rfl ?_
      refine j_iload_n (pc := 32) hK dX8_one_32 rfl ?_
      refine j_ineg (pc := 33) hK dX8_one_33 ?_
      refine j_callV (pc := 34) hK hQ (c_Yput _ h17 htx (by omega)) cal_X8_put yp_isC q1206 dX8_one_34 rfl rfl (by omega) (nle rfl) (nle rfl) (nle rfl) (kr_v ?_) kx_v
      refine j_aload_n (pc := 37) hK dX8_one_37 rfl ?_
      refine J.mono (fun h w => YP.toN w) ?_
      refine j_callV (pc := 38) hK hQ (c_Ynext hn hn2 hE.2.1) cal_X8_next yn_isC q1174 dX8_one_38 rfl rfl (by omega) (nle rfl) (nle rfl) (nle rfl) (kr_v ?_) kx_v
      refine j_iconst (pc := 41) (v := 1) hK dX8_one_41 (by decide) ?_
      exact j_bret (pc := 42) hK hQ (nle rfl) (nle rfl) dX8_one_42 (fun h w => ⟨Or.inr rfl, YZ.ok w rfl⟩)
    · rw [if_neg h2] at hx
      by_cases hs : isS (tp g) n p 45
      · rw [if_pos hs] at hx
        have hgt := en_gt hp (isS_0 hs)
        by_cases h5 : o = 5
        · rw [if_pos h5] at hx
          cases hx
          refine yp_open fun f1 g1 hc ht => ?_
          refine j_aload_n (pc := 0) hK dX8_one_0 rfl ?_
          refine y_getI (pc := 1) (k := 24) hK (by decide) rfl q1264 rfl dX8_one_1 ?_
          refine j_iconst (pc := 4) (v := 1) hK dX8_one_4 (by decide) ?_
          refine j_icmp_ne (pc := 5) (tgt := 22) hK dX8_one_5 (by decide) (fun c5 => ?_) (fun c5 => absurd c5 (by rw [ht.2.2.1]; exact h1))
          refine j_aload_n (pc := 22) hK dX8_one_22 rfl ?_
          refine J.mono (P' := YP Γ L f g T n B c0 o p) (fun h w => ⟨_, _, w, hc, ht⟩) ?_
          refine j_callV (pc := 23) hK hQ (c_Yname hn2 hp) cal_X8_name yp_isC q1222 dX8_one_23 rfl rfl (by omega) (nle rfl) (nle rfl) (nle rfl) (kr_i fun r23 => ?_) kx_i
          refine J.pre fun e23 => ?_
          subst e23
          refine j_ist1 (pc := 26) hK dX8_one_26 (by decide) rfl ?_
          refine j_iload_n (pc := 27) hK dX8_one_27 rfl ?_
          refine j_if_le (pc := 28) (tgt := 43) hK dX8_one_28 (by decide) (fun c28 => ?_) (fun c28 => absurd (Int32.not_lt.mp h2) c28)
          refine j_aload_n (pc := 43) hK dX8_one_43 rfl ?_
          refine j_bipush (pc := 44) (v := 45) hK dX8_one_44 (by decide) ?_
          refine j_callV (pc := 46) hK hQ (c_Yis2 _) cal_X8_is_2 yp_isC q1232 dX8_one_46 rfl rfl (by omega) (nle rfl) (nle rfl) (nle rfl) (kr_i fun r46 => ?_) kx_i
          refine J.pre fun e46 => ?_
          subst e46
          refine j_if_eq_b (pc := 49) (tgt := 103) hK dX8_one_49 (by decide) (fun c49 => absurd hs c49) (fun c49 => ?_)
          refine yp_open fun f1 g1 hc ht => ?_
          refine j_aload_n (pc := 52) hK dX8_one_52 rfl ?_
          refine y_getI (pc := 53) (k := 26) hK (by decide) rfl q1266 rfl dX8_one_53 ?_
          refine j_iconst (pc := 56) (v := 5) hK dX8_one_56 (by decide) ?_
          refine j_icmp_ne (pc := 57) (tgt := 62) hK dX8_one_57 (by decide) (fun c57 => absurd (by rw [hc.2.2.1]; exact (opn5 ho).mpr h5) c57) (fun c57 => ?_)
          refine j_iconst (pc := 60) (v := 0) hK dX8_one_60 (by decide) ?_
          exact j_bret (pc := 61) hK hQ (nle rfl) (nle rfl) dX8_one_61 (fun h w => ⟨Or.inl rfl, ⟨_, rfl, rfl, _, _, _, _, w, hc, ht⟩⟩)
        · rw [if_neg h5] at hx
          rcases ap_c hx with ⟨u, e1, rfl⟩ | ⟨u, c, e1, rfl⟩
          · have hb : Ct Γ A yX8_one wX8_one (7 * (5 - (o + 1)) + 7) 0 0 [.ref (L 40)] (YP Γ L f g T n B c0 (o + 1) (enP (tp g) n p)) (RI fun r h => r = b2i False ∧ YB Γ L f g T n B u h) := IHo _ _ _ _ hE.2.1 (by omega) (by omega) e1
            refine yp_open fun f1 g1 hc ht => ?_
            refine j_aload_n (pc := 0) hK dX8_one_0 rfl ?_
            refine y_getI (pc := 1) (k := 24) hK (by decide) rfl q1264 rfl dX8_one_1 ?_
            refine j_iconst (pc := 4) (v := 1) hK dX8_one_4 (by decide) ?_
            refine j_icmp_ne (pc := 5) (tgt := 22) hK dX8_one_5 (by decide) (fun c5 => ?_) (fun c5 => absurd c5 (by rw [ht.2.2.1]; exact h1))
            refine j_aload_n (pc := 22) hK dX8_one_22 rfl ?_
            refine J.mono (P' := YP Γ L f g T n B c0 o p) (fun h w => ⟨_, _, w, hc, ht⟩) ?_
            refine j_callV (pc := 23) hK hQ (c_Yname hn2 hp) cal_X8_name yp_isC q1222 dX8_one_23 rfl rfl (by omega) (nle rfl) (nle rfl) (nle rfl) (kr_i fun r23 => ?_) kx_i
            refine J.pre fun e23 => ?_
            subst e23
            refine j_ist1 (pc := 26) hK dX8_one_26 (by decide) rfl ?_
            refine j_iload_n (pc := 27) hK dX8_one_27 rfl ?_
            refine j_if_le (pc := 28) (tgt := 43) hK dX8_one_28 (by decide) (fun c28 => ?_) (fun c28 => absurd (Int32.not_lt.mp h2) c28)
            refine j_aload_n (pc := 43) hK dX8_one_43 rfl ?_
            refine j_bipush (pc := 44) (v := 45) hK dX8_one_44 (by decide) ?_
            refine j_callV (pc := 46) hK hQ (c_Yis2 _) cal_X8_is_2 yp_isC q1232 dX8_one_46 rfl rfl (by omega) (nle rfl) (nle rfl) (nle rfl) (kr_i fun r46 => ?_) kx_i
            refine J.pre fun e46 => ?_
            subst e46
            refine j_if_eq_b (pc := 49) (tgt := 103) hK dX8_one_49 (by decide) (fun c49 => absurd hs c49) (fun c49 => ?_)
            refine yp_open fun f1 g1 hc ht => ?_
            refine j_aload_n (pc := 52) hK dX8_one_52 rfl ?_
            refine y_getI (pc := 53) (k := 26) hK (by decide) rfl q1266 rfl dX8_one_53 ?_
            refine j_iconst (pc := 56) (v := 5) hK dX8_one_56 (by decide) ?_
            refine j_icmp_ne (pc := 57) (tgt := 62) hK dX8_one_57 (by decide) (fun c57 => ?_) (fun c57 => absurd c57 (by rw [hc.2.2.1]; exact fun z => h5 ((opn5 ho).mp z)))
            refine j_aload_n (pc := 62) hK dX8_one_62 rfl ?_
            refine j_dup (pc := 63) hK dX8_one_63 rfl ?_
            refine y_getI (pc := 64) (k := 26) hK (by decide) rfl q1266 rfl dX8_one_64 ?_
            refine j_iconst (pc := 67) (v := 1) hK dX8_one_67 (by decide) ?_
            refine j_iadd (pc := 68) hK dX8_one_68 ?_
            refine y_putI (pc := 69) (k := 26) hK (by decide) rfl q1266 rfl rfl rfl rfl dX8_one_69 ?_
            refine j_aload_n (pc := 72) hK dX8_one_72 rfl ?_
            refine J.mono (P' := YN Γ L f g T B c0 (o + 1) (enP (tp g) n p)) (fun h w => ⟨_, _, w, hc.opn (o + 1) (by rw [hc.2.2.1, nI_1]), ht.1⟩) ?_
            refine j_callV (pc := 73) hK hQ (c_Ynext hn hn2 hE.2.1) cal_X8_next yn_isC q1174 dX8_one_73 rfl rfl (by omega) (nle rfl) (nle rfl) (nle rfl) (kr_v ?_) kx_v
            refine j_aload_n (pc := 76) hK dX8_one_76 rfl ?_
            refine j_callV (pc := 77) hK hQ (hb) cal_X8_one yp_isC q1218 dX8_one_77 rfl rfl (by omega) (nle rfl) (nle rfl) (nle rfl) (kr_i fun r77 => ?_) kx_i
            refine J.pre fun e77 => ?_
            subst e77
            refine j_if_ne_b (pc := 80) (tgt := 85) hK dX8_one_80 (by decide) (fun c80 => absurd c80 (fun z => z)) (fun c80 => ?_)
            refine j_iconst (pc := 83) (v := 0) hK dX8_one_83 (by decide) ?_
            exact j_bret (pc := 84) hK hQ (nle rfl) (nle rfl) dX8_one_84 (fun h w => ⟨Or.inl rfl, ⟨_, rfl, rfl, w⟩⟩)
          · have hl := (pr_len _ _ _ _ _ hE.2.1 e1)
            have hl1 := hl.2.1
            have hl2 := hl.2.2 c rfl
            simp only at hl1 hl2
            have hb : Ct Γ A yX8_one wX8_one (7 * (5 - (o + 1)) + 7) 0 0 [.ref (L 40)] (YP Γ L f g T n B c0 (o + 1) (enP (tp g) n p)) (RI fun r h => r = b2i True ∧ YP Γ L f g T n B (c0 ++ c) (o + 1) u h) := IHo _ _ _ _ hE.2.1 (by omega) (by omega) e1
            refine yp_open fun f1 g1 hc ht => ?_
            refine j_aload_n (pc := 0) hK dX8_one_0 rfl ?_
            refine y_getI (pc := 1) (k := 24) hK (by decide) rfl q1264 rfl dX8_one_1 ?_
            refine j_iconst (pc := 4) (v := 1) hK dX8_one_4 (by decide) ?_
            refine j_icmp_ne (pc := 5) (tgt := 22) hK dX8_one_5 (by decide) (fun c5 => ?_) (fun c5 => absurd c5 (by rw [ht.2.2.1]; exact h1))
            refine j_aload_n (pc := 22) hK dX8_one_22 rfl ?_
            refine J.mono (P' := YP Γ L f g T n B c0 o p) (fun h w => ⟨_, _, w, hc, ht⟩) ?_
            refine j_callV (pc := 23) hK hQ (c_Yname hn2 hp) cal_X8_name yp_isC q1222 dX8_one_23 rfl rfl (by omega) (nle rfl) (nle rfl) (nle rfl) (kr_i fun r23 => ?_) kx_i
            refine J.pre fun e23 => ?_
            subst e23
            refine j_ist1 (pc := 26) hK dX8_one_26 (by decide) rfl ?_
            refine j_iload_n (pc := 27) hK dX8_one_27 rfl ?_
            refine j_if_le (pc := 28) (tgt := 43) hK dX8_one_28 (by decide) (fun c28 => ?_) (fun c28 => absurd (Int32.not_lt.mp h2) c28)
            refine j_aload_n (pc := 43) hK dX8_one_43 rfl ?_
            refine j_bipush (pc := 44) (v := 45) hK dX8_one_44 (by decide) ?_
            refine j_callV (pc := 46) hK hQ (c_Yis2 _) cal_X8_is_2 yp_isC q1232 dX8_one_46 rfl rfl (by omega) (nle rfl) (nle rfl) (nle rfl) (kr_i fun r46 => ?_) kx_i
            refine J.pre fun e46 => ?_
            subst e46
            refine j_if_eq_b (pc := 49) (tgt := 103) hK dX8_one_49 (by decide) (fun c49 => absurd hs c49) (fun c49 => ?_)
            refine yp_open fun f1 g1 hc ht => ?_
            refine j_aload_n (pc := 52) hK dX8_one_52 rfl ?_
            refine y_getI (pc := 53) (k := 26) hK (by decide) rfl q1266 rfl dX8_one_53 ?_
            refine j_iconst (pc := 56) (v := 5) hK dX8_one_56 (by decide) ?_
            refine j_icmp_ne (pc := 57) (tgt := 62) hK dX8_one_57 (by decide) (fun c57 => ?_) (fun c57 => absurd c57 (by rw [hc.2.2.1]; exact fun z => h5 ((opn5 ho).mp z)))
            refine j_aload_n (pc := 62) hK dX8_one_62 rfl ?_
            refine j_dup (pc := 63) hK dX8_one_63 rfl ?_
            refine y_getI (pc := 64) (k := 26) hK (by decide) rfl q1266 rfl dX8_one_64 ?_
            refine j_iconst (pc := 67) (v := 1) hK dX8_one_67 (by decide) ?_
            refine j_iadd (pc := 68) hK dX8_one_68 ?_
            refine y_putI (pc := 69) (k := 26) hK (by decide) rfl q1266 rfl rfl rfl rfl dX8_one_69 ?_
            refine j_aload_n (pc := 72) hK dX8_one_72 rfl ?_
            refine J.mono (P' := YN Γ L f g T B c0 (o + 1) (enP (tp g) n p)) (fun h w => ⟨_, _, w, hc.opn (o + 1) (by rw [hc.2.2.1, nI_1]), ht.1⟩) ?_
            refine j_callV (pc := 73) hK hQ (c_Ynext hn hn2 hE.2.1) cal_X8_next yn_isC q1174 dX8_one_73 rfl rfl (by omega) (nle rfl) (nle rfl) (nle rfl) (kr_v ?_) kx_v
            refine j_aload_n (pc := 76) hK dX8_one_76 rfl ?_
            refine j_callV (pc := 77) hK hQ (hb) cal_X8_one yp_isC q1218 dX8_one_77 rfl rfl (by omega) (nle rfl) (nle rfl) (nle rfl) (kr_i fun r77 => ?_) kx_i
            refine J.pre fun e77 => ?_
            subst e77
            refine j_if_ne_b (pc := 80) (tgt := 85) hK dX8_one_80 (by decide) (fun c80 => ?_) (fun c80 => absurd trivial c80)
            refine yp_open fun f2 g2 hc2 ht2 => ?_
            refine j_aload_n (pc := 85) hK dX8_one_85 rfl ?_
            refine j_dup (pc := 86) hK dX8_one_86 rfl ?_
            refine y_getI (pc := 87) (k := 26) hK (by decide) rfl q1266 rfl dX8_one_87 ?_
            refine j_iconst (pc := 90) (v := 1) hK dX8_one_90 (by decide) ?_
            refine j_isub (pc := 91) hK dX8_one_91 ?_
            refine y_putI (pc := 92) (k := 26) hK (by decide) rfl q1266 rfl rfl rfl rfl dX8_one_92 ?_
            refine j_aload_n (pc := 95) hK dX8_one_95 rfl ?_
            refine j_bipush (pc := 96) (v := (-19)) hK dX8_one_96 (by decide) ?_
            refine J.mono (P' := YP Γ L f g T n B (c0 ++ c) o u) (fun h w => ⟨_, _, w, hc2.opn o (by rw [hc2.2.2.1, nI_pred]), ht2⟩) ?_
            refine j_callV (pc := 98) hK hQ (c_Yput _ h17 htx (by simp only [List.length_append]; omega)) cal_X8_put yp_isC q1206 dX8_one_98 rfl rfl (by omega) (nle rfl) (nle rfl) (nle rfl) (kr_v ?_) kx_v
            refine j_iconst (pc := 101) (v := 1) hK dX8_one_101 (by decide) ?_
            exact j_bret (pc := 102) hK hQ (nle rfl) (nle rfl) dX8_one_102 (fun h w => ⟨Or.inr rfl, YZ.ok w (List.append_assoc _ _ _)⟩)
      · rw [if_neg hs] at hx
        by_cases h4 : isS (tp g) n p 40
        · skip
          have hgt := en_gt hp (isS_0 h4)
          by_cases h5 : o = 5
          · rw [if_neg (fun z => z.2 h5)] at hx
            cases hx
            refine yp_open fun f1 g1 hc ht => ?_
            refine j_aload_n (pc := 0) hK dX8_one_0 rfl ?_
            refine y_getI (pc := 1) (k := 24) hK (by decide) rfl q1264 rfl dX8_one_1 ?_
            refine j_iconst (pc := 4) (v := 1) hK dX8_one_4 (by decide) ?_
            refine j_icmp_ne (pc := 5) (tgt := 22) hK dX8_one_5 (by decide) (fun c5 => ?_) (fun c5 => absurd c5 (by rw [ht.2.2.1]; exact h1))
            refine j_aload_n (pc := 22) hK dX8_one_22 rfl ?_
            refine J.mono (P' := YP Γ L f g T n B c0 o p) (fun h w => ⟨_, _, w, hc, ht⟩) ?_
            refine j_callV (pc := 23) hK hQ (c_Yname hn2 hp) cal_X8_name yp_isC q1222 dX8_one_23 rfl rfl (by omega) (nle rfl) (nle rfl) (nle rfl) (kr_i fun r23 => ?_) kx_i
            refine J.pre fun e23 => ?_
            subst e23
            refine j_ist1 (pc := 26) hK dX8_one_26 (by decide) rfl ?_
            refine j_iload_n (pc := 27) hK dX8_one_27 rfl ?_
            refine j_if_le (pc := 28) (tgt := 43) hK dX8_one_28 (by decide) (fun c28 => ?_) (fun c28 => absurd (Int32.not_lt.mp h2) c28)
            refine j_aload_n (pc := 43) hK dX8_one_43 rfl ?_
            refine j_bipush (pc := 44) (v := 45) hK dX8_one_44 (by decide) ?_
            refine j_callV (pc := 46) hK hQ (c_Yis2 _) cal_X8_is_2 yp_isC q1232 dX8_one_46 rfl rfl (by omega) (nle rfl) (nle rfl) (nle rfl) (kr_i fun r46 => ?_) kx_i
            refine J.pre fun e46 => ?_
            subst e46
            refine j_if_eq_b (pc := 49) (tgt := 103) hK dX8_one_49 (by decide) (fun c49 => ?_) (fun c49 => absurd c49 hs)
            refine j_aload_n (pc := 103) hK dX8_one_103 rfl ?_
            refine j_bipush (pc := 104) (v := 40) hK dX8_one_104 (by decide) ?_
            refine j_callV (pc := 106) hK hQ (c_Yis2 _) cal_X8_is_2 yp_isC q1232 dX8_one_106 rfl rfl (by omega) (nle rfl) (nle rfl) (nle rfl) (kr_i fun r106 => ?_) kx_i
            refine J.pre fun e106 => ?_
            subst e106
            refine j_if_eq_b (pc := 109) (tgt := 120) hK dX8_one_109 (by decide) (fun c109 => absurd h4 c109) (fun c109 => ?_)
            refine yp_open fun f1 g1 hc ht => ?_
            refine j_aload_n (pc := 112) hK dX8_one_112 rfl ?_
            refine y_getI (pc := 113) (k := 26) hK (by decide) rfl q1266 rfl dX8_one_113 ?_
            refine j_iconst (pc := 116) (v := 5) hK dX8_one_116 (by decide) ?_
            refine j_icmp_ne (pc := 117) (tgt := 122) hK dX8_one_117 (by decide) (fun c117 => absurd (by rw [hc.2.2.1]; exact (opn5 ho).mpr h5) c117) (fun c117 => ?_)
            refine j_iconst (pc := 120) (v := 0) hK dX8_one_120 (by decide) ?_
            exact j_bret (pc := 121) hK hQ (nle rfl) (nle rfl) dX8_one_121 (fun h w => ⟨Or.inl rfl, ⟨_, rfl, rfl, _, _, _, _, w, hc, ht⟩⟩)
          · rw [if_pos ⟨h4, h5⟩] at hx
            rcases cl_c hx with ⟨q, e1, rfl⟩ | ⟨q, c, e1, e2⟩
            · have hb : Ct Γ A yX8_any wX8_any (7 * (5 - (o + 1)) + 12) 0 0 [.ref (L 40)] (YP Γ L f g T n B c0 (o + 1) (enP (tp g) n p)) (RI fun r h => r = b2i False ∧ YB Γ L f g T n B q h) := IHa _ _ _ _ hE.2.1 (by omega) (by omega) e1
              refine yp_open fun f1 g1 hc ht => ?_
              refine j_aload_n (pc := 0) hK dX8_one_0 rfl ?_
              refine y_getI (pc := 1) (k := 24) hK (by decide) rfl q1264 rfl dX8_one_1 ?_
              refine j_iconst (pc := 4) (v := 1) hK dX8_one_4 (by decide) ?_
              refine j_icmp_ne (pc := 5) (tgt := 22) hK dX8_one_5 (by decide) (fun c5 => ?_) (fun c5 => absurd c5 (by rw [ht.2.2.1]; exact h1))
              refine j_aload_n (pc := 22) hK dX8_one_22 rfl ?_
              refine J.mono (P' := YP Γ L f g T n B c0 o p) (fun h w => ⟨_, _, w, hc, ht⟩) ?_
              refine j_callV (pc := 23) hK hQ (c_Yname hn2 hp) cal_X8_name yp_isC q1222 dX8_one_23 rfl rfl (by omega) (nle rfl) (nle rfl) (nle rfl) (kr_i fun r23 => ?_) kx_i
              refine J.pre fun e23 => ?_
              subst e23
              refine j_ist1 (pc := 26) hK dX8_one_26 (by decide) rfl ?_
              refine j_iload_n (pc := 27) hK dX8_one_27 rfl ?_
              refine j_if_le (pc := 28) (tgt := 43) hK dX8_one_28 (by decide) (fun c28 => ?_) (fun c28 => absurd (Int32.not_lt.mp h2) c28)
              refine j_aload_n (pc := 43) hK dX8_one_43 rfl ?_
              refine j_bipush (pc := 44) (v := 45) hK dX8_one_44 (by decide) ?_
              refine j_callV (pc := 46) hK hQ (c_Yis2 _) cal_X8_is_2 yp_isC q1232 dX8_one_46 rfl rfl (by omega) (nle rfl) (nle rfl) (nle rfl) (kr_i fun r46 => ?_) kx_i
              refine J.pre fun e46 => ?_
              subst e46
              refine j_if_eq_b (pc := 49) (tgt := 103) hK dX8_one_49 (by decide) (fun c49 => ?_) (fun c49 => absurd c49 hs)
              refine j_aload_n (pc := 103) hK dX8_one_103 rfl ?_
              refine j_bipush (pc := 104) (v := 40) hK dX8_one_104 (by decide) ?_
              refine j_callV (pc := 106) hK hQ (c_Yis2 _) cal_X8_is_2 yp_isC q1232 dX8_one_106 rfl rfl (by omega) (nle rfl) (nle rfl) (nle rfl) (kr_i fun r106 => ?_) kx_i
              refine J.pre fun e106 => ?_
              subst e106
              refine j_if_eq_b (pc := 109) (tgt := 120) hK dX8_one_109 (by decide) (fun c109 => absurd h4 c109) (fun c109 => ?_)
              refine yp_open fun f1 g1 hc ht => ?_
              refine j_aload_n (pc := 112) hK dX8_one_112 rfl ?_
              refine y_getI (pc := 113) (k := 26) hK (by decide) rfl q1266 rfl dX8_one_113 ?_
              refine j_iconst (pc := 116) (v := 5) hK dX8_one_116 (by decide) ?_
              refine j_icmp_ne (pc := 117) (tgt := 122) hK dX8_one_117 (by decide) (fun c117 => ?_) (fun c117 => absurd c117 (by rw [hc.2.2.1]; exact fun z => h5 ((opn5 ho).mp z)))
              refine j_aload_n (pc := 122) hK dX8_one_122 rfl ?_
              refine j_dup (pc := 123) hK dX8_one_123 rfl ?_
              refine y_getI (pc := 124) (k := 26) hK (by decide) rfl q1266 rfl dX8_one_124 ?_
              refine j_iconst (pc := 127) (v := 1) hK dX8_one_127 (by decide) ?_
              refine j_iadd (pc := 128) hK dX8_one_128 ?_
              refine y_putI (pc := 129) (k := 26) hK (by decide) rfl q1266 rfl rfl rfl rfl dX8_one_129 ?_
              refine j_aload_n (pc := 132) hK dX8_one_132 rfl ?_
              refine J.mono (P' := YN Γ L f g T B c0 (o + 1) (enP (tp g) n p)) (fun h w => ⟨_, _, w, hc.opn (o + 1) (by rw [hc.2.2.1, nI_1]), ht.1⟩) ?_
              refine j_callV (pc := 133) hK hQ (c_Ynext hn hn2 hE.2.1) cal_X8_next yn_isC q1174 dX8_one_133 rfl rfl (by omega) (nle rfl) (nle rfl) (nle rfl) (kr_v ?_) kx_v
              refine j_aload_n (pc := 136) hK dX8_one_136 rfl ?_
              refine j_callV (pc := 137) hK hQ (hb) cal_X8_any yp_isC q1193 dX8_one_137 rfl rfl (by omega) (nle rfl) (nle rfl) (nle rfl) (kr_i fun r137 => ?_) kx_i
              refine J.pre fun e137 => ?_
              subst e137
              refine j_if_eq_b (pc := 140) (tgt := 152) hK dX8_one_140 (by decide) (fun c140 => ?_) (fun c140 => absurd c140 (fun z => z))
              refine j_iconst (pc := 152) (v := 0) hK dX8_one_152 (by decide) ?_
              exact j_bret (pc := 153) hK hQ (nle rfl) (nle rfl) dX8_one_153 (fun h w => ⟨Or.inl rfl, ⟨_, rfl, rfl, w⟩⟩)
            · have hl := (pr_len _ _ _ _ _ hE.2.1 e1)
              have hl1 := hl.2.1
              have hl2 := hl.2.2 c rfl
              simp only at hl1 hl2
              have hb : Ct Γ A yX8_any wX8_any (7 * (5 - (o + 1)) + 12) 0 0 [.ref (L 40)] (YP Γ L f g T n B c0 (o + 1) (enP (tp g) n p)) (RI fun r h => r = b2i True ∧ YP Γ L f g T n B (c0 ++ c) (o + 1) q h) := IHa _ _ _ _ hE.2.1 (by omega) (by omega) e1
              rcases e2 with ⟨h41, rfl⟩ | ⟨h41, rfl⟩
              · skip
                refine yp_open fun f1 g1 hc ht => ?_
                refine j_aload_n (pc := 0) hK dX8_one_0 rfl ?_
                refine y_getI (pc := 1) (k := 24) hK (by decide) rfl q1264 rfl dX8_one_1 ?_
                refine j_iconst (pc := 4) (v := 1) hK dX8_one_4 (by decide) ?_
                refine j_icmp_ne (pc := 5) (tgt := 22) hK dX8_one_5 (by decide) (fun c5 => ?_) (fun c5 => absurd c5 (by rw [ht.2.2.1]; exact h1))
                refine j_aload_n (pc := 22) hK dX8_one_22 rfl ?_
                refine J.mono (P' := YP Γ L f g T n B c0 o p) (fun h w => ⟨_, _, w, hc, ht⟩) ?_
                refine j_callV (pc := 23) hK hQ (c_Yname hn2 hp) cal_X8_name yp_isC q1222 dX8_one_23 rfl rfl (by omega) (nle rfl) (nle rfl) (nle rfl) (kr_i fun r23 => ?_) kx_i
                refine J.pre fun e23 => ?_
                subst e23
                refine j_ist1 (pc := 26) hK dX8_one_26 (by decide) rfl ?_
                refine j_iload_n (pc := 27) hK dX8_one_27 rfl ?_
                refine j_if_le (pc := 28) (tgt := 43) hK dX8_one_28 (by decide) (fun c28 => ?_) (fun c28 => absurd (Int32.not_lt.mp h2) c28)
                refine j_aload_n (pc := 43) hK dX8_one_43 rfl ?_
                refine j_bipush (pc := 44) (v := 45) hK dX8_one_44 (by decide) ?_
                refine j_callV (pc := 46) hK hQ (c_Yis2 _) cal_X8_is_2 yp_isC q1232 dX8_one_46 rfl rfl (by omega) (nle rfl) (nle rfl) (nle rfl) (kr_i fun r46 => ?_) kx_i
                refine J.pre fun e46 => ?_
                subst e46
                refine j_if_eq_b (pc := 49) (tgt := 103) hK dX8_one_49 (by decide) (fun c49 => ?_) (fun c49 => absurd c49 hs)
                refine j_aload_n (pc := 103) hK dX8_one_103 rfl ?_
                refine j_bipush (pc := 104) (v := 40) hK dX8_one_104 (by decide) ?_
                refine j_callV (pc := 106) hK hQ (c_Yis2 _) cal_X8_is_2 yp_isC q1232 dX8_one_106 rfl rfl (by omega) (nle rfl) (nle rfl) (nle rfl) (kr_i fun r106 => ?_) kx_i
                refine J.pre fun e106 => ?_
                subst e106
                refine j_if_eq_b (pc := 109) (tgt := 120) hK dX8_one_109 (by decide) (fun c109 => absurd h4 c109) (fun c109 => ?_)
                refine yp_open fun f1 g1 hc ht => ?_
                refine j_aload_n (pc := 112) hK dX8_one_112 rfl ?_
                refine y_getI (pc := 113) (k := 26) hK (by decide) rfl q1266 rfl dX8_one_113 ?_
                refine j_iconst (pc := 116) (v := 5) hK dX8_one_116 (by decide) ?_
                refine j_icmp_ne (pc := 117) (tgt := 122) hK dX8_one_117 (by decide) (fun c117 => ?_) (fun c117 => absurd c117 (by rw [hc.2.2.1]; exact fun z => h5 ((opn5 ho).mp z)))
                refine j_aload_n (pc := 122) hK dX8_one_122 rfl ?_
                refine j_dup (pc := 123) hK dX8_one_123 rfl ?_
                refine y_getI (pc := 124) (k := 26) hK (by decide) rfl q1266 rfl dX8_one_124 ?_
                refine j_iconst (pc := 127) (v := 1) hK dX8_one_127 (by decide) ?_
                refine j_iadd (pc := 128) hK dX8_one_128 ?_
                refine y_putI (pc := 129) (k := 26) hK (by decide) rfl q1266 rfl rfl rfl rfl dX8_one_129 ?_
                refine j_aload_n (pc := 132) hK dX8_one_132 rfl ?_
                refine J.mono (P' := YN Γ L f g T B c0 (o + 1) (enP (tp g) n p)) (fun h w => ⟨_, _, w, hc.opn (o + 1) (by rw [hc.2.2.1, nI_1]), ht.1⟩) ?_
                refine j_callV (pc := 133) hK hQ (c_Ynext hn hn2 hE.2.1) cal_X8_next yn_isC q1174 dX8_one_133 rfl rfl (by omega) (nle rfl) (nle rfl) (nle rfl) (kr_v ?_) kx_v
                refine j_aload_n (pc := 136) hK dX8_one_136 rfl ?_
                refine j_callV (pc := 137) hK hQ (hb) cal_X8_any yp_isC q1193 dX8_one_137 rfl rfl (by omega) (nle rfl) (nle rfl) (nle rfl) (kr_i fun r137 => ?_) kx_i
                refine J.pre fun e137 => ?_
                subst e137
                refine j_if_eq_b (pc := 140) (tgt := 152) hK dX8_one_140 (by decide) (fun c140 => absurd trivial c140) (fun c140 => ?_)
                refine j_aload_n (pc := 143) hK dX8_one_143 rfl ?_
                refine j_bipush (pc := 144) (v := 41) hK dX8_one_144 (by decide) ?_
                refine j_callV (pc := 146) hK hQ (c_Yis2 _) cal_X8_is_2 yp_isC q1232 dX8_one_146 rfl rfl (by omega) (nle rfl) (nle rfl) (nle rfl) (kr_i fun r146 => ?_) kx_i
                refine J.pre fun e146 => ?_
                subst e146
                refine j_if_ne_b (pc := 149) (tgt := 154) hK dX8_one_149 (by decide) (fun c149 => ?_) (fun c149 => absurd h41 c149)
                refine yp_open fun f2 g2 hc2 ht2 => ?_
                refine j_aload_n (pc := 154) hK dX8_one_154 rfl ?_
                refine j_dup (pc := 155) hK dX8_one_155 rfl ?_
                refine y_getI (pc := 156) (k := 26) hK (by decide) rfl q1266 rfl dX8_one_156 ?_
                refine j_iconst (pc := 159) (v := 1) hK dX8_one_159 (by decide) ?_
                refine j_isub (pc := 160) hK dX8_one_160 ?_
                refine y_putI (pc := 161) (k := 26) hK (by decide) rfl q1266 rfl rfl rfl rfl dX8_one_161 ?_
                refine j_aload_n (pc := 164) hK dX8_one_164 rfl ?_
                refine J.mono (P' := YN Γ L f g T B (c0 ++ c) o (enP (tp g) n q)) (fun h w => ⟨_, _, w, hc2.opn o (by rw [hc2.2.2.1, nI_pred]), ht2.1⟩) ?_
                refine j_callV (pc := 165) hK hQ (c_Ynext hn hn2 (en_le (t := tp g) hl1).2.1) cal_X8_next yn_isC q1174 dX8_one_165 rfl rfl (by omega) (nle rfl) (nle rfl) (nle rfl) (kr_v ?_) kx_v
                refine j_iconst (pc := 168) (v := 1) hK dX8_one_168 (by decide) ?_
                exact j_bret (pc := 169) hK hQ (nle rfl) (nle rfl) dX8_one_169 (fun h w => ⟨Or.inr rfl, YZ.ok w rfl⟩)
              · skip
                refine yp_open fun f1 g1 hc ht => ?_
                refine j_aload_n (pc := 0) hK dX8_one_0 rfl ?_
                refine y_getI (pc := 1) (k := 24) hK (by decide) rfl q1264 rfl dX8_one_1 ?_
                refine j_iconst (pc := 4) (v := 1) hK dX8_one_4 (by decide) ?_
                refine j_icmp_ne (pc := 5) (tgt := 22) hK dX8_one_5 (by decide) (fun c5 => ?_) (fun c5 => absurd c5 (by rw [ht.2.2.1]; exact h1))
                refine j_aload_n (pc := 22) hK dX8_one_22 rfl ?_
                refine J.mono (P' := YP Γ L f g T n B c0 o p) (fun h w => ⟨_, _, w, hc, ht⟩) ?_
                refine j_callV (pc := 23) hK hQ (c_Yname hn2 hp) cal_X8_name yp_isC q1222 dX8_one_23 rfl rfl (by omega) (nle rfl) (nle rfl) (nle rfl) (kr_i fun r23 => ?_) kx_i
                refine J.pre fun e23 => ?_
                subst e23
                refine j_ist1 (pc := 26) hK dX8_one_26 (by decide) rfl ?_
                refine j_iload_n (pc := 27) hK dX8_one_27 rfl ?_
                refine j_if_le (pc := 28) (tgt := 43) hK dX8_one_28 (by decide) (fun c28 => ?_) (fun c28 => absurd (Int32.not_lt.mp h2) c28)
                refine j_aload_n (pc := 43) hK dX8_one_43 rfl ?_
                refine j_bipush (pc := 44) (v := 45) hK dX8_one_44 (by decide) ?_
                refine j_callV (pc := 46) hK hQ (c_Yis2 _) cal_X8_is_2 yp_isC q1232 dX8_one_46 rfl rfl (by omega) (nle rfl) (nle rfl) (nle rfl) (kr_i fun r46 => ?_) kx_i
                refine J.pre fun e46 => ?_
                subst e46
                refine j_if_eq_b (pc := 49) (tgt := 103) hK dX8_one_49 (by decide) (fun c49 => ?_) (fun c49 => absurd c49 hs)
                refine j_aload_n (pc := 103) hK dX8_one_103 rfl ?_
                refine j_bipush (pc := 104) (v := 40) hK dX8_one_104 (by decide) ?_
                refine j_callV (pc := 106) hK hQ (c_Yis2 _) cal_X8_is_2 yp_isC q1232 dX8_one_106 rfl rfl (by omega) (nle rfl) (nle rfl) (nle rfl) (kr_i fun r106 => ?_) kx_i
                refine J.pre fun e106 => ?_
                subst e106
                refine j_if_eq_b (pc := 109) (tgt := 120) hK dX8_one_109 (by decide) (fun c109 => absurd h4 c109) (fun c109 => ?_)
                refine yp_open fun f1 g1 hc ht => ?_
                refine j_aload_n (pc := 112) hK dX8_one_112 rfl ?_
                refine y_getI (pc := 113) (k := 26) hK (by decide) rfl q1266 rfl dX8_one_113 ?_
                refine j_iconst (pc := 116) (v := 5) hK dX8_one_116 (by decide) ?_
                refine j_icmp_ne (pc := 117) (tgt := 122) hK dX8_one_117 (by decide) (fun c117 => ?_) (fun c117 => absurd c117 (by rw [hc.2.2.1]; exact fun z => h5 ((opn5 ho).mp z)))
                refine j_aload_n (pc := 122) hK dX8_one_122 rfl ?_
                refine j_dup (pc := 123) hK dX8_one_123 rfl ?_
                refine y_getI (pc := 124) (k := 26) hK (by decide) rfl q1266 rfl dX8_one_124 ?_
                refine j_iconst (pc := 127) (v := 1) hK dX8_one_127 (by decide) ?_
                refine j_iadd (pc := 128) hK dX8_one_128 ?_
                refine y_putI (pc := 129) (k := 26) hK (by decide) rfl q1266 rfl rfl rfl rfl dX8_one_129 ?_
                refine j_aload_n (pc := 132) hK dX8_one_132 rfl ?_
                refine J.mono (P' := YN Γ L f g T B c0 (o + 1) (enP (tp g) n p)) (fun h w => ⟨_, _, w, hc.opn (o + 1) (by rw [hc.2.2.1, nI_1]), ht.1⟩) ?_
                refine j_callV (pc := 133) hK hQ (c_Ynext hn hn2 hE.2.1) cal_X8_next yn_isC q1174 dX8_one_133 rfl rfl (by omega) (nle rfl) (nle rfl) (nle rfl) (kr_v ?_) kx_v
                refine j_aload_n (pc := 136) hK dX8_one_136 rfl ?_
                refine j_callV (pc := 137) hK hQ (hb) cal_X8_any yp_isC q1193 dX8_one_137 rfl rfl (by omega) (nle rfl) (nle rfl) (nle rfl) (kr_i fun r137 => ?_) kx_i
                refine J.pre fun e137 => ?_
                subst e137
                refine j_if_eq_b (pc := 140) (tgt := 152) hK dX8_one_140 (by decide) (fun c140 => absurd trivial c140) (fun c140 => ?_)
                refine j_aload_n (pc := 143) hK dX8_one_143 rfl ?_
                refine j_bipush (pc := 144) (v := 41) hK dX8_one_144 (by decide) ?_
                refine j_callV (pc := 146) hK hQ (c_Yis2 _) cal_X8_is_2 yp_isC q1232 dX8_one_146 rfl rfl (by omega) (nle rfl) (nle rfl) (nle rfl) (kr_i fun r146 => ?_) kx_i
                refine J.pre fun e146 => ?_
                subst e146
                refine j_if_ne_b (pc := 149) (tgt := 154) hK dX8_one_149 (by decide) (fun c149 => absurd c149 h41) (fun c149 => ?_)
                refine j_iconst (pc := 152) (v := 0) hK dX8_one_152 (by decide) ?_
                exact j_bret (pc := 153) hK hQ (nle rfl) (nle rfl) dX8_one_153 (fun h w => ⟨Or.inl rfl, ⟨_, rfl, rfl, _, _, w⟩⟩)
        · rw [if_neg (fun z => h4 z.1)] at hx
          cases hx
          refine yp_open fun f1 g1 hc ht => ?_
          refine j_aload_n (pc := 0) hK dX8_one_0 rfl ?_
          refine y_getI (pc := 1) (k := 24) hK (by decide) rfl q1264 rfl dX8_one_1 ?_
          refine j_iconst (pc := 4) (v := 1) hK dX8_one_4 (by decide) ?_
          refine j_icmp_ne (pc := 5) (tgt := 22) hK dX8_one_5 (by decide) (fun c5 => ?_) (fun c5 => absurd c5 (by rw [ht.2.2.1]; exact h1))
          refine j_aload_n (pc := 22) hK dX8_one_22 rfl ?_
          refine J.mono (P' := YP Γ L f g T n B c0 o p) (fun h w => ⟨_, _, w, hc, ht⟩) ?_
          refine j_callV (pc := 23) hK hQ (c_Yname hn2 hp) cal_X8_name yp_isC q1222 dX8_one_23 rfl rfl (by omega) (nle rfl) (nle rfl) (nle rfl) (kr_i fun r23 => ?_) kx_i
          refine J.pre fun e23 => ?_
          subst e23
          refine j_ist1 (pc := 26) hK dX8_one_26 (by decide) rfl ?_
          refine j_iload_n (pc := 27) hK dX8_one_27 rfl ?_
          refine j_if_le (pc := 28) (tgt := 43) hK dX8_one_28 (by decide) (fun c28 => ?_) (fun c28 => absurd (Int32.not_lt.mp h2) c28)
          refine j_aload_n (pc := 43) hK dX8_one_43 rfl ?_
          refine j_bipush (pc := 44) (v := 45) hK dX8_one_44 (by decide) ?_
          refine j_callV (pc := 46) hK hQ (c_Yis2 _) cal_X8_is_2 yp_isC q1232 dX8_one_46 rfl rfl (by omega) (nle rfl) (nle rfl) (nle rfl) (kr_i fun r46 => ?_) kx_i
          refine J.pre fun e46 => ?_
          subst e46
          refine j_if_eq_b (pc := 49) (tgt := 103) hK dX8_one_49 (by decide) (fun c49 => ?_) (fun c49 => absurd c49 hs)
          refine j_aload_n (pc := 103) hK dX8_one_103 rfl ?_
          refine j_bipush (pc := 104) (v := 40) hK dX8_one_104 (by decide) ?_
          refine j_callV (pc := 106) hK hQ (c_Yis2 _) cal_X8_is_2 yp_isC q1232 dX8_one_106 rfl rfl (by omega) (nle rfl) (nle rfl) (nle rfl) (kr_i fun r106 => ?_) kx_i
          refine J.pre fun e106 => ?_
          subst e106
          refine j_if_eq_b (pc := 109) (tgt := 120) hK dX8_one_109 (by decide) (fun c109 => ?_) (fun c109 => absurd c109 h4)
          refine j_iconst (pc := 120) (v := 0) hK dX8_one_120 (by decide) ?_
          exact j_bret (pc := 121) hK hQ (nle rfl) (nle rfl) dX8_one_121 (fun h w => ⟨Or.inl rfl, ⟨_, rfl, rfl, _, _, w⟩⟩)
/-- the reference reads as 'pr' says -/
theorem c_Yall (hn : f 15 = nI n) (hn2 : n ≤ 160) (h17 : f 17 = nI tx) (htx : tx < 6) : ∀ m j, j ≤ m → YCa Γ A L f g T n B j ∧ YCb Γ A L f g T n B j ∧ YCn Γ A L f g T n B j ∧ YCs Γ A L f g T n B j ∧ YCt Γ A L f g T n B j ∧ YCo Γ A L f g T n B j := by
  intro m
  induction m with
  | zero =>
    intro j hj
    have : j = 0 := by omega
    subst this
    exact ⟨(fun p o c0 x _ _ _ h => by cases h), (fun p o c0 x _ _ _ h => by cases h), (fun p o c0 x _ _ _ h => by cases h), (fun p o c0 x _ _ _ h => by cases h), (fun p o c0 x _ _ _ h => by cases h), (fun p o c0 x _ _ _ h => by cases h)⟩
  | succ m ih =>
    intro j hj
    by_cases e : j ≤ m
    · exact ih j e
    · have : j = m + 1 := by omega
      subst this
      have z := ih m (Nat.le_refl _)
      exact ⟨s_Yany hn hn2 h17 htx (fun j hj => (ih j hj).2.1), s_Yboth hn hn2 h17 htx (fun j hj => (ih j hj).2.2.1), s_Ynot hn hn2 h17 htx z.2.2.1 z.2.2.2.1, s_Ysum hn hn2 h17 htx (fun j hj => (ih j hj).2.2.2.2.1), s_Yterm hn hn2 h17 htx (fun j hj => (ih j hj).2.2.2.2.2), s_Yone hn hn2 h17 htx z.2.2.2.2.2 z.1⟩
end Y17
