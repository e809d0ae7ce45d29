/-! the reference reads: is, name, put -/
set_option maxRecDepth 100000
section Y14
variable {Γ : Gam} {A : Nat → Prop} {L : Nat → Nat} {f : Nat → Int32} {g : Nat → Int32 → Int32} {T : TX} {P : PH → Prop} {B : Int32 → Int32} {c0 : List Int32} {o n p : Nat} {a v : Nat} {bs : List Int32}
theorem c_Yis2 (c : Int32) : Ct Γ A yX8_is_2 wX8_is_2 1 0 0 [.ref (L 40), .int c] (YP Γ L f g T n B c0 o p) (RI fun r h => r = b2i (isS (tp g) n p c) ∧ YP Γ L f g T n B c0 o p h) := by
  refine Ct.of (cc := cX8_is_2) (nL := 2) (ret := (some .boolean)) (ls := [some (.ref (L 40)), some (.int c)]) rfl rfl rfl (nle rfl) ?_
  intro K hK hQ
  refine yp_open fun f1 g1 hc ht => ?_
  refine j_aload_n (pc := 0) hK dX8_is_2_0 rfl ?_
  refine y_getI (pc := 1) (k := 24) hK (by decide) rfl q1264 rfl dX8_is_2_1 ?_
  refine j_iconst (pc := 4) (v := 3) hK dX8_is_2_4 (by decide) ?_
  refine j_icmp_ne (pc := 5) (tgt := 20) hK dX8_is_2_5 (by decide) (fun c5 => ?_) (fun c5 => ?_)
  · have hh : ¬ isS (tp g) n p c := fun z => by
      first
        | exact c5 (by rw [ht.2.2.1]; exact z.1)
        | exact c13 (by rw [ht.2.2.2 (Or.inr z.1)]; exact z.2)
    refine j_iconst (pc := 20) (v := 0) hK dX8_is_2_20 (by decide) ?_
    exact j_bret (pc := 21) hK hQ (nle rfl) (nle rfl) dX8_is_2_21 (fun h w => ⟨by first | exact Or.inl rfl | exact Or.inr rfl, _, rfl, by first | rw [b2i_t hh] | rw [b2i_f hh], _, _, w, hc, ht⟩)
  · refine j_aload_n (pc := 8) hK dX8_is_2_8 rfl ?_
    refine y_getI (pc := 9) (k := 25) hK (by decide) rfl q1265 rfl dX8_is_2_9 ?_
    refine j_iload_n (pc := 12) hK dX8_is_2_12 rfl ?_
    refine j_icmp_ne (pc := 13) (tgt := 20) hK dX8_is_2_13 (by decide) (fun c13 => ?_) (fun c13 => ?_)
    · have hh : ¬ isS (tp g) n p c := fun z => by
        first
          | exact c5 (by rw [ht.2.2.1]; exact z.1)
          | exact c13 (by rw [ht.2.2.2 (Or.inr z.1)]; exact z.2)
      refine j_iconst (pc := 20) (v := 0) hK dX8_is_2_20 (by decide) ?_
      exact j_bret (pc := 21) hK hQ (nle rfl) (nle rfl) dX8_is_2_21 (fun h w => ⟨by first | exact Or.inl rfl | exact Or.inr rfl, _, rfl, by first | rw [b2i_t hh] | rw [b2i_f hh], _, _, w, hc, ht⟩)
    · have hh : isS (tp g) n p c := ⟨by rw [← ht.2.2.1]; exact c5, by rw [← ht.2.2.2 (Or.inr (by rw [← ht.2.2.1]; exact c5))]; exact c13⟩
      refine j_iconst (pc := 16) (v := 1) hK dX8_is_2_16 (by decide) ?_
      refine j_goto (pc := 17) (tgt := 21) hK dX8_is_2_17 (by decide) ?_
      exact j_bret (pc := 21) hK hQ (nle rfl) (nle rfl) dX8_is_2_21 (fun h w => ⟨by first | exact Or.inl rfl | exact Or.inr rfl, _, rfl, by first | rw [b2i_t hh] | rw [b2i_f hh], _, _, w, hc, ht⟩)
theorem c_Yis (hS : sLs Γ a v bs) (hb : ∀ i, i < bs.length → chI (bs.getD i 0) = bs.getD i 0) (hn2 : n ≤ 160) (hp : p ≤ n) : Ct Γ A yX8_is wX8_is 5 0 0 [.ref (L 40), .ref a] (YP Γ L f g T n B c0 o p) (RI fun r h => r = b2i (isW (tp g) n p bs) ∧ YP Γ L f g T n B c0 o p h) := by
  refine Ct.of (cc := cX8_is) (nL := 3) (ret := (some .boolean)) (ls := [some (.ref (L 40)), some (.ref a), none]) rfl rfl rfl (nle rfl) ?_
  intro K hK hQ
  have hΓ := hK.g
  have hF := fr_le (t := tp g) hp
  have hE := en_le (t := tp g) hp
  have hl31 : bs.length < 2 ^ 31 := by obtain ⟨_, _, _, _, _, _, _, _, _, _, _, _, _, hz⟩ := hS; exact hz
  refine yp_open fun f1 g1 hc ht => ?_
  have hs : f1 22 - f1 23 = nI (enP (tp g) n p - frP (tp g) n p) := by rw [ht.1, ht.2.1, pk_sub hE.1]
  have loop : soP (tp g) n p = 2 → enP (tp g) n p - frP (tp g) n p = bs.length → ∀ (r i : Nat), i + r = bs.length → (∀ j, j < i → tp g (frP (tp g) n p + j) = bs.getD j 0) → J Γ A K 28 [some (.ref (L 40)), some (.ref a), some (.int (nI i))] [] (YW Γ L f1 g1) 0 0 := by
    intro hso hlen r
    induction r with
    | zero =>
      intro i hi hpre
      have hh : isW (tp g) n p bs := ⟨hso, wd_iff.mpr ⟨hlen, fun j hj => hpre j (by omega)⟩⟩
      refine j_iload_n (pc := 28) hK dX8_is_28 rfl ?_
      refine j_aload_n (pc := 29) hK dX8_is_29 rfl ?_
      refine j_callL (pc := 30) hK hQ (c_Jlength hΓ hS) cal_J3_length hS q1161 dX8_is_30 rfl rfl (nle rfl) (nle rfl) (nle rfl) (nle rfl) (kr_i fun r30 => ?_) kx_i
      refine J.pre fun e30 => ?_
      subst e30
      refine j_icmp_ge (pc := 33) (tgt := 63) hK dX8_is_33 (by decide) (fun c33 => ?_) (fun c33 => absurd (nI_le (by omega) (by omega)) c33)
      refine j_iconst (pc := 63) (v := 1) hK dX8_is_63 (by decide) ?_
      exact j_bret (pc := 64) hK hQ (nle rfl) (nle rfl) dX8_is_64 (fun h w => ⟨by exact Or.inr rfl, _, rfl, by rw [b2i_t hh], _, _, w, hc, ht⟩)
    | succ r ih =>
      intro i hi hpre
      have hi' : i < bs.length := by omega
      refine j_iload_n (pc := 28) hK dX8_is_28 rfl ?_
      refine j_aload_n (pc := 29) hK dX8_is_29 rfl ?_
      refine j_callL (pc := 30) hK hQ (c_Jlength hΓ hS) cal_J3_length hS q1161 dX8_is_30 rfl rfl (nle rfl) (nle rfl) (nle rfl) (nle rfl) (kr_i fun r30 => ?_) kx_i
      refine J.pre fun e30 => ?_
      subst e30
      refine j_icmp_ge (pc := 33) (tgt := 63) hK dX8_is_33 (by decide) (fun c33 => absurd c33 (nI_ge (by omega) (by omega))) (fun c33 => ?_)
      refine j_aload_n (pc := 36) hK dX8_is_36 rfl ?_
      refine y_getR (pc := 37) (k := 16) hK (by decide) rfl q1256 rfl dX8_is_37 ?_
      refine j_aload_n (pc := 40) hK dX8_is_40 rfl ?_
      refine y_getI (pc := 41) (k := 23) hK (by decide) rfl q1263 rfl dX8_is_41 ?_
      refine j_iload_n (pc := 44) hK dX8_is_44 rfl ?_
      refine j_iadd (pc := 45) hK dX8_is_45 ?_
      refine y_ald (pc := 46) (k := 16) hK rfl (by rw [ht.2.1, nI_add]; exact vp_in_nI (show _ < 160 by omega) (by decide)) dX8_is_46 ?_
      rw [ht.2.1, nI_add, (hc.1 16 rfl).2]
      refine j_aload_n (pc := 47) hK dX8_is_47 rfl ?_
      refine j_iload_n (pc := 48) hK dX8_is_48 rfl ?_
      refine j_callL (pc := 49) hK hQ (c_JcharAt hΓ hS (by assumption)) cal_J3_charAt hS q1162 dX8_is_49 rfl rfl (nle rfl) (nle rfl) (nle rfl) (nle rfl) (kr_i fun r49 => ?_) kx_i
      refine J.pre fun e49 => ?_
      subst e49
      rw [hb i hi']
      refine j_icmp_eq (pc := 52) (tgt := 57) hK dX8_is_52 (by decide) (fun c52 => ?_) (fun c52 => ?_)
      · refine j_iinc2 (pc := 57) (v := 1) hK dX8_is_57 (by decide) rfl (by decide) ?_
        refine j_goto (pc := 60) (tgt := 28) hK dX8_is_60 (by decide) ?_
        rw [nI_1]
        refine ih (i + 1) (by omega) (fun j hj => ?_)
        by_cases e : j = i
        · rw [e]; exact c52
        · exact hpre j (by omega)
      · have hh : ¬ isW (tp g) n p bs := fun z => c52 ((wd_iff.mp z.2).2 i hi')
        refine j_iconst (pc := 55) (v := 0) hK dX8_is_55 (by decide) ?_
        exact j_bret (pc := 56) hK hQ (nle rfl) (nle rfl) dX8_is_56 (fun h w => ⟨by exact Or.inl rfl, _, rfl, by rw [b2i_f hh], _, _, w, hc, ht⟩)
  refine j_aload_n (pc := 0) hK dX8_is_0 rfl ?_
  refine y_getI (pc := 1) (k := 24) hK (by decide) rfl q1264 rfl dX8_is_1 ?_
  refine j_iconst (pc := 4) (v := 2) hK dX8_is_4 (by decide) ?_
  refine j_icmp_ne (pc := 5) (tgt := 24) hK dX8_is_5 (by decide) (fun c5 => ?_) (fun c5 => ?_)
  · have hh : ¬ isW (tp g) n p bs := fun z => by
      first
        | exact c5 (by rw [ht.2.2.1]; exact z.1)
        | exact c21 (by rw [(wd_iff.mp z.2).1])
    refine j_iconst (pc := 24) (v := 0) hK dX8_is_24 (by decide) ?_
    exact j_bret (pc := 25) hK hQ (nle rfl) (nle rfl) dX8_is_25 (fun h w => ⟨by exact Or.inl rfl, _, rfl, by rw [b2i_f hh], _, _, w, hc, ht⟩)
  · refine j_aload_n (pc := 8) hK dX8_is_8 rfl ?_
    refine y_getI (pc := 9) (k := 22) hK (by decide) rfl q1262 rfl dX8_is_9 ?_
    refine j_aload_n (pc := 12) hK dX8_is_12 rfl ?_
    refine y_getI (pc := 13) (k := 23) hK (by decide) rfl q1263 rfl dX8_is_13 ?_
    refine j_isub (pc := 16) hK dX8_is_16 ?_
    refine j_aload_n (pc := 17) hK dX8_is_17 rfl ?_
    refine j_callL (pc := 18) hK hQ (c_Jlength hΓ hS) cal_J3_length hS q1161 dX8_is_18 rfl rfl (nle rfl) (nle rfl) (nle rfl) (nle rfl) (kr_i fun r18 => ?_) kx_i
    refine J.pre fun e18 => ?_
    subst e18
    rw [hs]
    refine j_icmp_eq (pc := 21) (tgt := 26) hK dX8_is_21 (by decide) (fun c21 => ?_) (fun c21 => ?_)
    · refine j_iconst (pc := 26) (v := 0) hK dX8_is_26 (by decide) ?_
      refine j_ist2 (pc := 27) hK dX8_is_27 (by decide) rfl ?_
      exact loop (by rw [← ht.2.2.1]; exact c5) ((nI_eq (by omega) (by omega)).mp c21) bs.length 0 (by omega) (fun j hj => by omega)
    · have hh : ¬ isW (tp g) n p bs := fun z => by
        first
          | exact c5 (by rw [ht.2.2.1]; exact z.1)
          | exact c21 (by rw [(wd_iff.mp z.2).1])
      refine j_iconst (pc := 24) (v := 0) hK dX8_is_24 (by decide) ?_
      exact j_bret (pc := 25) hK hQ (nle rfl) (nle rfl) dX8_is_25 (fun h w => ⟨by exact Or.inl rfl, _, rfl, by rw [b2i_f hh], _, _, w, hc, ht⟩)
theorem c_Yname (hn2 : n ≤ 160) (hp : p ≤ n) : Ct Γ A yX8_name wX8_name 6 0 0 [.ref (L 40)] (YP Γ L f g T n B c0 o p) (RI fun r h => r = nmP (tp g) n p ∧ YP Γ L f g T n B c0 o p h) := by
  refine Ct.of (cc := cX8_name) (nL := 1) (ret := (some .int)) (ls := [some (.ref (L 40))]) rfl rfl rfl (nle rfl) ?_
  intro K hK hQ
  obtain ⟨a177, v177, hev177, hS177⟩ := ls_X8_177 hK.g
  obtain ⟨a182, v182, hev182, hS182⟩ := ls_X8_182 hK.g
  obtain ⟨a183, v183, hev183, hS183⟩ := ls_X8_183 hK.g
  obtain ⟨a185, v185, hev185, hS185⟩ := ls_X8_185 hK.g
  obtain ⟨a187, v187, hev187, hS187⟩ := ls_X8_187 hK.g
  obtain ⟨a189, v189, hev189, hS189⟩ := ls_X8_189 hK.g
  refine j_aload_n (pc := 0) hK dX8_name_0 rfl ?_
  refine j_ldcs (pc := 1) hK q1226 hev177 dX8_name_1 ?_
  refine j_callV (pc := 3) hK hQ (c_Yis hS177 (by decide) hn2 hp) cal_X8_is yp_isC q1189 dX8_name_3 rfl rfl (nle rfl) (nle rfl) (nle rfl) (nle rfl) (kr_i fun r3 => ?_) kx_i
  refine J.pre fun e3 => ?_
  subst e3
  refine j_if_eq_b (pc := 6) (tgt := 11) hK dX8_name_6 (by decide) (fun c6 => ?_) (fun c6 => ?_)
  · refine j_aload_n (pc := 11) hK dX8_name_11 rfl ?_
    refine j_ldcs (pc := 12) hK q1227 hev182 dX8_name_12 ?_
    refine j_callV (pc := 14) hK hQ (c_Yis hS182 (by decide) hn2 hp) cal_X8_is yp_isC q1189 dX8_name_14 rfl rfl (nle rfl) (nle rfl) (nle rfl) (nle rfl) (kr_i fun r14 => ?_) kx_i
    refine J.pre fun e14 => ?_
    subst e14
    refine j_if_eq_b (pc := 17) (tgt := 22) hK dX8_name_17 (by decide) (fun c17 => ?_) (fun c17 => ?_)
    · refine j_aload_n (pc := 22) hK dX8_name_22 rfl ?_
      refine j_ldcs (pc := 23) hK q1228 hev183 dX8_name_23 ?_
      refine j_callV (pc := 25) hK hQ (c_Yis hS183 (by decide) hn2 hp) cal_X8_is yp_isC q1189 dX8_name_25 rfl rfl (nle rfl) (nle rfl) (nle rfl) (nle rfl) (kr_i fun r25 => ?_) kx_i
      refine J.pre fun e25 => ?_
      subst e25
      refine j_if_eq_b (pc := 28) (tgt := 33) hK dX8_name_28 (by decide) (fun c28 => ?_) (fun c28 => ?_)
      · refine j_aload_n (pc := 33) hK dX8_name_33 rfl ?_
        refine j_ldcs (pc := 34) hK q1229 hev185 dX8_name_34 ?_
        refine j_callV (pc := 36) hK hQ (c_Yis hS185 (by decide) hn2 hp) cal_X8_is yp_isC q1189 dX8_name_36 rfl rfl (nle rfl) (nle rfl) (nle rfl) (nle rfl) (kr_i fun r36 => ?_) kx_i
        refine J.pre fun e36 => ?_
        subst e36
        refine j_if_eq_b (pc := 39) (tgt := 44) hK dX8_name_39 (by decide) (fun c39 => ?_) (fun c39 => ?_)
        · refine j_aload_n (pc := 44) hK dX8_name_44 rfl ?_
          refine j_ldcs (pc := 45) hK q1230 hev187 dX8_name_45 ?_
          refine j_callV (pc := 47) hK hQ (c_Yis hS187 (by decide) hn2 hp) cal_X8_is yp_isC q1189 dX8_name_47 rfl rfl (nle rfl) (nle rfl) (nle rfl) (nle rfl) (kr_i fun r47 => ?_) kx_i
          refine J.pre fun e47 => ?_
          subst e47
          refine j_if_eq_b (pc := 50) (tgt := 55) hK dX8_name_50 (by decide) (fun c50 => ?_) (fun c50 => ?_)
          · refine j_aload_n (pc := 55) hK dX8_name_55 rfl ?_
            refine j_ldcs (pc := 56) hK q1231 hev189 dX8_name_56 ?_
            refine j_callV (pc := 58) hK hQ (c_Yis hS189 (by decide) hn2 hp) cal_X8_is yp_isC q1189 dX8_name_58 rfl rfl (nle rfl) (nle rfl) (nle rfl) (nle rfl) (kr_i fun r58 => ?_) kx_i
            refine J.pre fun e58 => ?_
            subst e58
            refine j_if_eq_b (pc := 61) (tgt := 67) hK dX8_name_61 (by decide) (fun c61 => ?_) (fun c61 => ?_)
            · refine j_iconst (pc := 67) (v := 0) hK dX8_name_67 (by decide) ?_
              exact j_iret (pc := 68) hK hQ (nle rfl) (nle rfl) dX8_name_68 (fun h w => ⟨_, rfl, by unfold nmP; rw [if_neg c6, if_neg c17, if_neg c28, if_neg c39, if_neg c50, if_neg c61], w⟩)
            · refine j_bipush (pc := 64) (v := 6) hK dX8_name_64 (by decide) ?_
              exact j_iret (pc := 66) hK hQ (nle rfl) (nle rfl) dX8_name_66 (fun h w => ⟨_, rfl, by unfold nmP; rw [if_neg c6, if_neg c17, if_neg c28, if_neg c39, if_neg c50, if_pos c61], w⟩)
          · refine j_iconst (pc := 53) (v := 5) hK dX8_name_53 (by decide) ?_
            exact j_iret (pc := 54) hK hQ (nle rfl) (nle rfl) dX8_name_54 (fun h w => ⟨_, rfl, by unfold nmP; rw [if_neg c6, if_neg c17, if_neg c28, if_neg c39, if_pos c50], w⟩)
        · refine j_iconst (pc := 42) (v := 4) hK dX8_name_42 (by decide) ?_
          exact j_iret (pc := 43) hK hQ (nle rfl) (nle rfl) dX8_name_43 (fun h w => ⟨_, rfl, by unfold nmP; rw [if_neg c6, if_neg c17, if_neg c28, if_pos c39], w⟩)
      · refine j_iconst (pc := 31) (v := 3) hK dX8_name_31 (by decide) ?_
        exact j_iret (pc := 32) hK hQ (nle rfl) (nle rfl) dX8_name_32 (fun h w => ⟨_, rfl, by unfold nmP; rw [if_neg c6, if_neg c17, if_pos c28], w⟩)
    · refine j_iconst (pc := 20) (v := 2) hK dX8_name_20 (by decide) ?_
      exact j_iret (pc := 21) hK hQ (nle rfl) (nle rfl) dX8_name_21 (fun h w => ⟨_, rfl, by unfold nmP; rw [if_neg c6, if_pos c17], w⟩)
  · refine j_iconst (pc := 9) (v := 1) hK dX8_name_9 (by decide) ?_
    exact j_iret (pc := 10) hK hQ (nle rfl) (nle rfl) dX8_name_10 (fun h w => ⟨_, rfl, by unfold nmP; rw [if_pos c6], w⟩)
theorem YPc.put {f1 : Nat → Int32} {g1 : Nat → Int32 → Int32} (h : YPc f g T B c0 o f1 g1) {tx : Nat} (h17 : f 17 = nI tx) (htx : tx < 6) (hl : c0.length < 170) (x : Int32) : YPc f g T B (c0 ++ [x]) o (upd f1 21 (f1 21 + 1)) (ug g1 19 (170 * f1 17 + f1 21) x) := by
  obtain ⟨h1, h2, h3, h4, h5, h6⟩ := h
  have e17 : f1 17 = f 17 := (h1 17 rfl).1
  have ei : 170 * f1 17 + f1 21 = nI (170 * tx + c0.length) := by rw [e17, h17, h4, show (170 : Int32) = nI 170 by decide, pk_mul, nI_add]
  have ej : ∀ i, 170 * f 17 + nI i = nI (170 * tx + i) := fun i => by rw [h17, show (170 : Int32) = nI 170 by decide, pk_mul, nI_add]
  refine ⟨(h1.junkA rfl _ _).junkF rfl _, ?_, h3, ?_, ?_, fun j => by rw [ug_k g1 _ x (by decide)]; exact h6 j⟩
  · intro q q1 q2
    obtain ⟨w, a1, a2⟩ := h2 q q1 q2
    obtain ⟨k, hk, rfl⟩ := nI_of (x := q) (Int32.not_lt.mpr q1)
    have hkt : k < tx := by
      have q3 : nI k < f1 17 := q2
      rw [e17, h17] at q3
      exact (nI_ltI hk (by omega)).mp q3
    refine ⟨w, fun z hz => ⟨by rw [ug_k g1 _ x (by decide)]; exact (a1 z hz).1, (a1 z hz).2⟩, fun z hz => ⟨(a2 z hz).1, fun i hi => ?_⟩⟩
    have b1 := (a1 (z + 1) (by omega)).2
    have b2 := (a2 z hz).1
    have b3 := (a2 z hz).2 i hi
    rw [ug_i g1 19 x (fun e => ?_)]
    · exact b3
    · rw [ei, show (170 : Int32) = nI 170 by decide, pk_mul, nI_add, nI_eq (by omega) (by omega)] at e
      omega
  · show f1 21 + 1 = _
    rw [h4, nI_1, List.length_append]
    rfl
  · intro i hi
    rw [List.length_append] at hi
    simp only [List.length_singleton] at hi
    by_cases e : i = c0.length
    · subst e
      rw [ei, ej, ug_s]
      simp
    · rw [ei, ej, ug_i g1 19 x (fun z => e (by rw [nI_eq (by omega) (by omega)] at z; omega)), ← ej, List.getElem?_append_left (by omega)]
      exact h5 i (by omega)
theorem c_Yput (x : Int32) {tx : Nat} (h17 : f 17 = nI tx) (htx : tx < 6) (hl : c0.length < 170) : Ct Γ A yX8_put wX8_put 1 0 0 [.ref (L 40), .int x] (YP Γ L f g T n B c0 o p) (RV (YP Γ L f g T n B (c0 ++ [x]) o p)) := by
  refine Ct.of (cc := cX8_put) (nL := 2) (ret := none) (ls := [some (.ref (L 40)), some (.int x)]) rfl rfl rfl (nle rfl) ?_
  intro K hK hQ
  refine yp_open fun f1 g1 hc ht => ?_
  have ei : 170 * f1 17 + f1 21 = nI (170 * tx + c0.length) := by rw [(hc.1 17 rfl).1, h17, hc.2.2.2.1, show (170 : Int32) = nI 170 by decide, pk_mul, nI_add]
  refine j_aload_n (pc := 0) hK dX8_put_0 rfl ?_
  refine y_getR (pc := 1) (k := 19) hK (by decide) rfl q1259 rfl dX8_put_1 ?_
  refine j_sipush (pc := 4) (v := 170) hK dX8_put_4 (by decide) ?_
  refine j_aload_n (pc := 7) hK dX8_put_7 rfl ?_
  refine y_getI (pc := 8) (k := 17) hK (by decide) rfl q1257 rfl dX8_put_8 ?_
  refine j_imul (pc := 11) hK dX8_put_11 ?_
  refine j_aload_n (pc := 12) hK dX8_put_12 rfl ?_
  refine j_dup (pc := 13) hK dX8_put_13 rfl ?_
  refine y_getI (pc := 14) (k := 21) hK (by decide) rfl q1261 rfl dX8_put_14 ?_
  refine j_dup_x1 (pc := 17) hK dX8_put_17 rfl rfl ?_
  refine j_iconst (pc := 18) (v := 1) hK dX8_put_18 (by decide) ?_
  refine j_iadd (pc := 19) hK dX8_put_19 ?_
  refine y_putI (pc := 20) (k := 21) hK (by decide) rfl q1261 rfl rfl rfl rfl dX8_put_20 ?_
  refine j_iadd (pc := 23) hK dX8_put_23 ?_
  refine j_iload_n (pc := 24) hK dX8_put_24 rfl ?_
  refine y_ast (pc := 25) (k := 19) hK rfl (by show vp_in (170 * f1 17 + f1 21) 1020; rw [ei]; exact vp_in_nI (by omega) (by decide)) dX8_put_25 ?_
  exact j_vret (pc := 26) hK hQ (nle rfl) (nle rfl) dX8_put_26 (fun h w => ⟨rfl, _, _, w, hc.put h17 htx hl x, ht⟩)
end Y14
