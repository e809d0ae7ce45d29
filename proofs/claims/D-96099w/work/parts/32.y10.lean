/-! goes and fetches -/
set_option maxRecDepth 100000
section P10
variable {f : Nat → Int32} {g : Nat → Int32 → Int32}
theorem tm_h (here towed gone : Int32) (os : List Nat) (ht : towed = f 11) (h11 : ¬ (0 : Int32) = f 11) : tmI f g 0 0 (gone + farI here 0 * (f 12 + towed)) os = tmI f g here towed gone os := by
  cases os with
  | nil =>
    show gone + farI here 0 * (f 12 + towed) + farI 0 0 * (f 12 + 0) = gone + farI here 0 * (f 12 + towed)
    rw [show farI 0 0 = 0 by decide]
    grind
  | cons b os =>
    unfold tmI
    rw [if_neg h11, if_pos ht]
theorem tm_b (here towed gone : Int32) (b : Nat) (os : List Nat) (ht : ¬ towed = f 11) : tmI f g (g 3 (nI b)) (towed + 1) (gone + farI here (g 3 (nI b)) * (f 12 + towed)) os = tmI f g here towed gone (b :: os) := (if_neg ht).symm
theorem leaf_a {t : Int32} {os : List Nat} {acc : Acc} (h1 : ¬ acc.1 < 0) (h2 : ¬ t < acc.1) : leafI t os acc = acc := if_pos ⟨Int32.not_lt.mp h1, Int32.not_lt.mp h2⟩
theorem leaf_b {t : Int32} {os : List Nat} {acc : Acc} (h : acc.1 < 0 ∨ t < acc.1) : leafI t os acc = (t, os) := if_neg (fun z => by
  rcases h with h | h
  · exact Int32.not_le.mpr h z.1
  · exact Int32.not_le.mpr h z.2)
end P10
section Y10
variable {Γ : Gam} {A : Nat → Prop} {L : Nat → Nat} {f : Nat → Int32} {g : Nat → Int32 → Int32} {T : TX} {P : PH → Prop}
/-- one call of goes, over the contracts of the calls that it makes -/
theorem goes_body {nb d : Nat} (hn : nb ≤ 7) (e0 : f 0 = nI nb) (h11 : ¬ (0 : Int32) = f 11) {s : Nat} {pre : List Nat} {acc : Acc} {here towed gone : Int32} (hs : s < 128) (hl : pre.length + pc7 s ≤ 7) (htm : ∀ os, tmI f g here towed gone os = tmI f g 0 0 0 (pre ++ os)) (hd2 : 2 ≤ d)
    (hhome : towed = f 11 → ¬ s = 0 → ∃ d', d' < d ∧ Ct Γ A yX8_goes wX8_goes d' 0 0 [.ref (L 40), .int (nI s), .int (nI pre.length), .int 0, .int 0, .int (gone + farI here 0 * (f 12 + towed))] (YG Γ L f g T acc pre) (RV (YG Γ L f g T (enI f g nb (pc7 s) s pre acc) pre)))
    (hrec : ∀ i, i < nb → s / 2 ^ i % 2 = 1 → ¬ towed = f 11 → ∀ acc : Acc, ∃ d', d' < d ∧ Ct Γ A yX8_goes wX8_goes d' 0 0 [.ref (L 40), .int (nI (s - 2 ^ i)), .int (nI (pre ++ [i]).length), .int (g 3 (nI i)), .int (towed + 1), .int (gone + farI here (g 3 (nI i)) * (f 12 + towed))] (YG Γ L f g T acc (pre ++ [i])) (RV (YG Γ L f g T (enI f g nb (pc7 (s - 2 ^ i)) (s - 2 ^ i) (pre ++ [i]) acc) (pre ++ [i])))) :
    Ct Γ A yX8_goes wX8_goes d 0 0 [.ref (L 40), .int (nI s), .int (nI pre.length), .int here, .int towed, .int gone] (YG Γ L f g T acc pre) (RV (YG Γ L f g T (enI f g nb (pc7 s) s pre acc) pre)) := by
  refine Ct.of (cc := cX8_goes) (nL := 8) (ret := none) (ls := [some (.ref (L 40)), some (.int (nI s)), some (.int (nI pre.length)), some (.int here), some (.int towed), some (.int gone), none, none]) rfl rfl rfl (nle rfl) ?_
  intro K hK hQ
  refine yg_open fun f1 g1 he ht ha hb hc => ?_
  have e12 : f1 12 = f 12 := (he 12 rfl).1
  have e11 : f1 11 = f 11 := (he 11 rfl).1
  have e00 : f1 0 = nI nb := ((he 0 rfl).1).trans e0
  have e3 : ∀ j, g1 3 j = g 3 j := (he 3 rfl).2
  by_cases hs0 : s = 0
  · subst hs0
    have hall : gone + farI here 0 * (f 12 + towed) = tmI f g 0 0 0 pre := by
      have := htm []
      rw [List.append_nil] at this
      exact this
    have hen : enI f g nb (pc7 0) 0 pre acc = leafI (tmI f g 0 0 0 pre) pre acc := rfl
    have loop : ∀ t : Int32, enI f g nb (pc7 0) 0 pre acc = (t, pre) → ∀ (n i : Nat) (g2 : Nat → Int32 → Int32), i + n = pre.length → Ess (upd f1 29 t) g2 f g → YT (upd f1 29 t) g2 T → (∀ j x, j < i → pre[j]? = some x → g2 31 (nI j) = nI x) → (∀ j x, pre[j]? = some x → g2 30 (nI j) = nI x) → J Γ A K 48 [some (.ref (L 40)), some (.int (nI 0)), some (.int (nI pre.length)), some (.int here), some (.int towed), some (.int gone), some (.int t), some (.int (nI i))] [] (YW Γ L (upd f1 29 t) g2) 0 0 := by
      intro t hq n
      induction n with
      | zero =>
        intro i g2 hi he2 ht2 hf2 ho2
        refine j_iload (pc := 48) hK dX8_goes_48 rfl ?_
        refine j_iload_n (pc := 50) hK dX8_goes_50 rfl ?_
        refine j_icmp_ge (pc := 51) (tgt := 74) hK dX8_goes_51 (by decide) (fun c51 => ?_) (fun c51 => absurd (nI_le (by omega) (by omega)) c51)
        refine j_vret (pc := 74) hK hQ (nle rfl) (nle rfl) dX8_goes_74 (fun h w => ⟨rfl, _, _, w, he2, ht2, by rw [hq]; rfl, by rw [hq]; show ∀ j x, pre[j]? = some x → _; exact fun j x hj => hf2 j x (by have := (List.getElem?_eq_some_iff.mp hj).1; omega) hj, ho2⟩)
      | succ n ih =>
        intro i g2 hi he2 ht2 hf2 ho2
        have hb7 : vp_in (nI i) 7 := vp_in_nI (by omega) (by decide)
        refine j_iload (pc := 48) hK dX8_goes_48 rfl ?_
        refine j_iload_n (pc := 50) hK dX8_goes_50 rfl ?_
        refine j_icmp_ge (pc := 51) (tgt := 74) hK dX8_goes_51 (by decide) (fun c51 => absurd c51 (nI_ge (by omega) (by omega))) (fun c51 => ?_)
        refine j_aload_n (pc := 54) hK dX8_goes_54 rfl ?_
        refine y_getR (pc := 55) (k := 31) hK (by decide) rfl q1271 rfl dX8_goes_55 ?_
        refine j_iload (pc := 58) hK dX8_goes_58 rfl ?_
        refine j_aload_n (pc := 60) hK dX8_goes_60 rfl ?_
        refine y_getR (pc := 61) (k := 30) hK (by decide) rfl q1270 rfl dX8_goes_61 ?_
        refine j_iload (pc := 64) hK dX8_goes_64 rfl ?_
        refine y_ald (pc := 66) (k := 30) hK rfl hb7 dX8_goes_66 ?_
        refine y_ast (pc := 67) (k := 31) hK rfl hb7 dX8_goes_67 ?_
        refine j_iinc7 (pc := 68) (v := 1) hK dX8_goes_68 (by decide) rfl (by decide) ?_
        refine j_goto (pc := 71) (tgt := 48) hK dX8_goes_71 (by decide) ?_
        rw [nI_1]
        refine ih (i + 1) _ (by omega) (he2.junkA rfl _ _) (ht2.putA (by decide) (by decide) _ _) (fun j x hj hx => ?_) (fun j x hx => by rw [ug_k g2 _ _ (by decide)]; exact ho2 j x hx)
        by_cases e : j = i
        · subst e
          rw [ug_s]
          exact ho2 j x hx
        · rw [ug_i g2 31 _ (fun z => e ((nI_eq (by omega) (by omega)).mp z))]
          exact hf2 j x (by omega) hx
    refine j_iload_n (pc := 0) hK dX8_goes_0 rfl ?_
    refine j_if_ne (pc := 1) (tgt := 75) hK dX8_goes_1 (by decide) (fun c1 => absurd (by decide) c1) (fun c1 => ?_)
    refine j_iload (pc := 4) hK dX8_goes_4 rfl ?_
    refine j_iload_n (pc := 6) hK dX8_goes_6 rfl ?_
    refine j_iconst (pc := 7) (v := 0) hK dX8_goes_7 (by decide) ?_
    refine j_callS (pc := 8) hK hQ (c_Yfar _ _) cal_X8_far q1395 dX8_goes_8 rfl rfl hd2 (nle rfl) (nle rfl) (nle rfl) (kr_i fun r8 => ?_) kx_i
    refine J.pre fun e8 => ?_
    subst e8
    refine j_aload_n (pc := 11) hK dX8_goes_11 rfl ?_
    refine y_getI (pc := 12) (k := 12) hK (by decide) rfl q1252 rfl dX8_goes_12 ?_
    refine j_iload (pc := 15) hK dX8_goes_15 rfl ?_
    refine j_iadd (pc := 17) hK dX8_goes_17 ?_
    refine j_imul (pc := 18) hK dX8_goes_18 ?_
    refine j_iadd (pc := 19) hK dX8_goes_19 ?_
    rw [e12, show gone + (absI (here / 8 - 0 / 8) + absI (here % 8 - 0 % 8)) * (f 12 + towed) = gone + farI here 0 * (f 12 + towed) from rfl, hall]
    refine j_ist6 (pc := 20) hK dX8_goes_20 (by decide) rfl ?_
    refine j_aload_n (pc := 22) hK dX8_goes_22 rfl ?_
    refine y_getI (pc := 23) (k := 29) hK (by decide) rfl q1269 rfl dX8_goes_23 ?_
    rw [ha]
    refine j_if_lt (pc := 26) (tgt := 39) hK dX8_goes_26 (by decide) (fun c26 => ?_) (fun c26 => ?_)
    · have hlf : enI f g nb (pc7 0) 0 pre acc = (tmI f g 0 0 0 pre, pre) := by rw [hen]; first | exact leaf_b (Or.inl c26) | exact leaf_b (Or.inr c35)
      refine j_aload_n (pc := 39) hK dX8_goes_39 rfl ?_
      refine j_iload (pc := 40) hK dX8_goes_40 rfl ?_
      refine y_putI (pc := 42) (k := 29) hK (by decide) rfl q1269 rfl rfl rfl rfl dX8_goes_42 ?_
      refine j_iconst (pc := 45) (v := 0) hK dX8_goes_45 (by decide) ?_
      refine j_ist7 (pc := 46) hK dX8_goes_46 (by decide) rfl ?_
      exact loop _ hlf pre.length 0 g1 (by omega) (he.junkF rfl _) (ht.putF (by decide) _) (fun j x hj => by omega) hc
    · refine j_iload (pc := 29) hK dX8_goes_29 rfl ?_
      refine j_aload_n (pc := 31) hK dX8_goes_31 rfl ?_
      refine y_getI (pc := 32) (k := 29) hK (by decide) rfl q1269 rfl dX8_goes_32 ?_
      rw [ha]
      refine j_icmp_lt (pc := 35) (tgt := 39) hK dX8_goes_35 (by decide) (fun c35 => ?_) (fun c35 => ?_)
      · have hlf : enI f g nb (pc7 0) 0 pre acc = (tmI f g 0 0 0 pre, pre) := by rw [hen]; first | exact leaf_b (Or.inl c26) | exact leaf_b (Or.inr c35)
        refine j_aload_n (pc := 39) hK dX8_goes_39 rfl ?_
        refine j_iload (pc := 40) hK dX8_goes_40 rfl ?_
        refine y_putI (pc := 42) (k := 29) hK (by decide) rfl q1269 rfl rfl rfl rfl dX8_goes_42 ?_
        refine j_iconst (pc := 45) (v := 0) hK dX8_goes_45 (by decide) ?_
        refine j_ist7 (pc := 46) hK dX8_goes_46 (by decide) rfl ?_
        exact loop _ hlf pre.length 0 g1 (by omega) (he.junkF rfl _) (ht.putF (by decide) _) (fun j x hj => by omega) hc
      · exact j_vret (pc := 38) hK hQ (nle rfl) (nle rfl) dX8_goes_38 (fun h w => ⟨rfl, f1, g1, w, he, ht, by rw [hen, leaf_a c26 c35]; exact ha, by rw [hen, leaf_a c26 c35]; exact hb, hc⟩)
  · have hpos : 1 ≤ pc7 s := by
      have : ¬ pc7 s = 0 := fun z => hs0 ((pc_0 s hs).mp z)
      omega
    have hso : vp_in (nI pre.length) 7 := vp_in_nI (by omega) (by decide)
    by_cases hh : towed = f 11
    · obtain ⟨d', hd', hC⟩ := hhome hh hs0
      refine j_iload_n (pc := 0) hK dX8_goes_0 rfl ?_
      refine j_if_ne (pc := 1) (tgt := 75) hK dX8_goes_1 (by decide) (fun c1 => ?_) (fun c1 => absurd c1 (by rw [show (0 : Int32) = nI 0 by decide, nI_eq (by omega) (by decide)]; exact hs0))
      refine j_iload (pc := 75) hK dX8_goes_75 rfl ?_
      refine j_aload_n (pc := 77) hK dX8_goes_77 rfl ?_
      refine y_getI (pc := 78) (k := 11) hK (by decide) rfl q1251 rfl dX8_goes_78 ?_
      refine j_icmp_ne (pc := 81) (tgt := 109) hK dX8_goes_81 (by decide) (fun c81 => absurd (by rw [e11]; exact hh) c81) (fun c81 => ?_)
      refine j_aload_n (pc := 84) hK dX8_goes_84 rfl ?_
      refine j_iload_n (pc := 85) hK dX8_goes_85 rfl ?_
      refine j_iload_n (pc := 86) hK dX8_goes_86 rfl ?_
      refine j_iconst (pc := 87) (v := 0) hK dX8_goes_87 (by decide) ?_
      refine j_iconst (pc := 88) (v := 0) hK dX8_goes_88 (by decide) ?_
      refine j_iload (pc := 89) hK dX8_goes_89 rfl ?_
      refine j_iload_n (pc := 91) hK dX8_goes_91 rfl ?_
      refine j_iconst (pc := 92) (v := 0) hK dX8_goes_92 (by decide) ?_
      refine j_callS (pc := 93) hK hQ (c_Yfar _ _) cal_X8_far q1395 dX8_goes_93 rfl rfl hd2 (nle rfl) (nle rfl) (nle rfl) (kr_i fun r93 => ?_) kx_i
      refine J.pre fun e93 => ?_
      subst e93
      refine j_aload_n (pc := 96) hK dX8_goes_96 rfl ?_
      refine y_getI (pc := 97) (k := 12) hK (by decide) rfl q1252 rfl dX8_goes_97 ?_
      refine j_iload (pc := 100) hK dX8_goes_100 rfl ?_
      refine j_iadd (pc := 102) hK dX8_goes_102 ?_
      refine j_imul (pc := 103) hK dX8_goes_103 ?_
      refine j_iadd (pc := 104) hK dX8_goes_104 ?_
      rw [e12]
      refine J.mono (P' := YG Γ L f g T acc pre) (fun h w => ⟨_, _, w, he, ht, ha, hb, hc⟩) ?_
      refine j_callV (pc := 105) hK hQ (hC) cal_X8_goes yg_isC q1462 dX8_goes_105 rfl rfl hd' (nle rfl) (nle rfl) (nle rfl) (kr_v ?_) kx_v
      exact j_vret (pc := 108) hK hQ (nle rfl) (nle rfl) dX8_goes_108 (fun h w => ⟨rfl, w⟩)
    · obtain ⟨n1, en1⟩ : ∃ n1, pc7 s = n1 + 1 := ⟨pc7 s - 1, by omega⟩
      have hen : enI f g nb (pc7 s) s pre acc = (List.range nb).foldl (fun acc i => if s / 2 ^ i % 2 = 1 then enI f g nb n1 (s - 2 ^ i) (pre ++ [i]) acc else acc) acc := by rw [en1]; rfl
      have loop : ∀ (n i : Nat), i + n = nb → J Γ A K 112 [some (.ref (L 40)), some (.int (nI s)), some (.int (nI pre.length)), some (.int here), some (.int towed), some (.int gone), some (.int (nI i)), none] [] (YG Γ L f g T ((List.range i).foldl (fun acc i => if s / 2 ^ i % 2 = 1 then enI f g nb n1 (s - 2 ^ i) (pre ++ [i]) acc else acc) acc) pre) 0 0 := by
        intro n
        induction n with
        | zero =>
          intro i hi
          have : i = nb := by omega
          subst this
          refine yg_open fun f2 g2 he ht ha hb hc => ?_
          refine j_iload (pc := 112) hK dX8_goes_112 rfl ?_
          refine j_aload_n (pc := 114) hK dX8_goes_114 rfl ?_
          refine y_getI (pc := 115) (k := 0) hK (by decide) rfl q1240 rfl dX8_goes_115 ?_
          refine j_icmp_ge (pc := 118) (tgt := 195) hK dX8_goes_118 (by decide) (fun c118 => ?_) (fun c118 => absurd (by rw [(he 0 rfl).1, e0]; exact nI_le (by omega) (by omega)) c118)
          exact j_vret (pc := 195) hK hQ (nle rfl) (nle rfl) dX8_goes_195 (fun h w => ⟨rfl, f2, g2, w, he, ht, by rw [hen]; exact ha, by rw [hen]; exact hb, hc⟩)
        | succ n ih =>
          intro i hi
          have ih' := ih (i + 1) (by omega)
          rw [rng_s] at ih'
          refine yg_open fun f2 g2 he ht ha hb hc => ?_
          have hb7 : vp_in (nI i) 7 := vp_in_nI (by omega) (by decide)
          have e3 : ∀ j, g2 3 j = g 3 j := (he 3 rfl).2
          have ebit := bit_s s hs i (by omega)
          have hlt : s / 2 ^ i % 2 < 2 := Nat.mod_lt _ (by decide)
          refine j_iload (pc := 112) hK dX8_goes_112 rfl ?_
          refine j_aload_n (pc := 114) hK dX8_goes_114 rfl ?_
          refine y_getI (pc := 115) (k := 0) hK (by decide) rfl q1240 rfl dX8_goes_115 ?_
          refine j_icmp_ge (pc := 118) (tgt := 195) hK dX8_goes_118 (by decide) (fun c118 => absurd c118 (by rw [(he 0 rfl).1, e0]; exact nI_ge (by omega) (by omega))) (fun c118 => ?_)
          refine j_iload_n (pc := 121) hK dX8_goes_121 rfl ?_
          refine j_iload (pc := 122) hK dX8_goes_122 rfl ?_
          refine j_ishr (pc := 124) hK dX8_goes_124 ?_
          refine j_iconst (pc := 125) (v := 1) hK dX8_goes_125 (by decide) ?_
          refine j_iand (pc := 126) hK dX8_goes_126 ?_
          rw [ebit]
          refine j_if_ne (pc := 127) (tgt := 133) hK dX8_goes_127 (by decide) (fun c127 => ?_) (fun c127 => ?_)
          · have hb1 : s / 2 ^ i % 2 = 1 := by
              rcases (show s / 2 ^ i % 2 = 0 ∨ s / 2 ^ i % 2 = 1 by omega) with z | z
              · exact absurd (by rw [z]; decide) c127
              · exact z
            rw [if_pos hb1] at ih'
            obtain ⟨ec, ep, ele⟩ := clr_s s hs i (by omega) hb1
            obtain ⟨d', hd', hC⟩ := hrec i (by omega) hb1 hh ((List.range i).foldl (fun acc i => if s / 2 ^ i % 2 = 1 then enI f g nb n1 (s - 2 ^ i) (pre ++ [i]) acc else acc) acc)
            rw [show pc7 (s - 2 ^ i) = n1 by omega] at hC
            refine j_aload_n (pc := 133) hK dX8_goes_133 rfl ?_
            refine y_getR (pc := 134) (k := 30) hK (by decide) rfl q1270 rfl dX8_goes_134 ?_
            refine j_iload_n (pc := 137) hK dX8_goes_137 rfl ?_
            refine j_iload (pc := 138) hK dX8_goes_138 rfl ?_
            refine y_ast (pc := 140) (k := 30) hK rfl hso dX8_goes_140 ?_
            refine j_aload_n (pc := 141) hK dX8_goes_141 rfl ?_
            refine j_iload_n (pc := 142) hK dX8_goes_142 rfl ?_
            refine j_iconst (pc := 143) (v := 1) hK dX8_goes_143 (by decide) ?_
            refine j_iload (pc := 144) hK dX8_goes_144 rfl ?_
            refine j_ishl (pc := 146) hK dX8_goes_146 ?_
            refine j_iconst (pc := 147) (v := (-1)) hK dX8_goes_147 (by decide) ?_
            rw [shl_i i (by omega)]
            refine j_ixor (pc := 148) hK dX8_goes_148 ?_
            refine j_iand (pc := 149) hK dX8_goes_149 ?_
            rw [ec]
            refine j_iload_n (pc := 150) hK dX8_goes_150 rfl ?_
            refine j_iconst (pc := 151) (v := 1) hK dX8_goes_151 (by decide) ?_
            refine j_iadd (pc := 152) hK dX8_goes_152 ?_
            rw [nI_1, show nI (pre.length + 1) = nI (pre ++ [i]).length by simp]
            refine j_aload_n (pc := 153) hK dX8_goes_153 rfl ?_
            refine y_getR (pc := 154) (k := 3) hK (by decide) rfl q1243 rfl dX8_goes_154 ?_
            refine j_iload (pc := 157) hK dX8_goes_157 rfl ?_
            refine y_ald (pc := 159) (k := 3) hK rfl hb7 dX8_goes_159 ?_
            rw [ug_k g2 _ _ (by decide), e3]
            refine j_iload (pc := 160) hK dX8_goes_160 rfl ?_
            refine j_iconst (pc := 162) (v := 1) hK dX8_goes_162 (by decide) ?_
            refine j_iadd (pc := 163) hK dX8_goes_163 ?_
            refine j_iload (pc := 164) hK dX8_goes_164 rfl ?_
            refine j_iload_n (pc := 166) hK dX8_goes_166 rfl ?_
            refine j_aload_n (pc := 167) hK dX8_goes_167 rfl ?_
            refine y_getR (pc := 168) (k := 3) hK (by decide) rfl q1243 rfl dX8_goes_168 ?_
            refine j_iload (pc := 171) hK dX8_goes_171 rfl ?_
            refine y_ald (pc := 173) (k := 3) hK rfl hb7 dX8_goes_173 ?_
            rw [ug_k g2 _ _ (by decide), e3]
            refine j_callS (pc := 174) hK hQ (c_Yfar _ _) cal_X8_far q1395 dX8_goes_174 rfl rfl hd2 (nle rfl) (nle rfl) (nle rfl) (kr_i fun r174 => ?_) kx_i
            refine J.pre fun e174 => ?_
            subst e174
            refine j_aload_n (pc := 177) hK dX8_goes_177 rfl ?_
            refine y_getI (pc := 178) (k := 12) hK (by decide) rfl q1252 rfl dX8_goes_178 ?_
            refine j_iload (pc := 181) hK dX8_goes_181 rfl ?_
            refine j_iadd (pc := 183) hK dX8_goes_183 ?_
            refine j_imul (pc := 184) hK dX8_goes_184 ?_
            refine j_iadd (pc := 185) hK dX8_goes_185 ?_
            rw [(he 12 rfl).1]
            refine J.mono (P' := YG Γ L f g T _ (pre ++ [i])) (fun h w => ⟨_, _, w, he.junkA rfl _ _, ht.putA (by decide) (by decide) _ _, ha, fun j x hx => by rw [ug_k g2 _ _ (by decide)]; exact hb j x hx, fun j x hx => ?_⟩) ?_
            · by_cases e : j = pre.length
              · subst e
                rw [ug_s]
                simp at hx
                rw [hx]
              · have hlt2 : j < pre.length := by
                  have := (List.getElem?_eq_some_iff.mp hx).1
                  simp at this
                  omega
                rw [ug_i g2 30 _ (fun z => e ((nI_eq (by omega) (by omega)).mp z))]
                exact hc j x (by rwa [List.getElem?_append_left hlt2] at hx)
            refine j_callV (pc := 186) hK hQ (hC) cal_X8_goes yg_isC q1462 dX8_goes_186 rfl rfl hd' (nle rfl) (nle rfl) (nle rfl) (kr_v ?_) kx_v
            refine J.mono (P' := YG Γ L f g T _ pre) (fun h ⟨f3, g3, w, a1, a2, a3, a4, a5⟩ => ⟨f3, g3, w, a1, a2, a3, a4, fun j x hx => a5 j x (by rw [List.getElem?_append_left ((List.getElem?_eq_some_iff.mp hx).1)]; exact hx)⟩) ?_
            refine j_iinc6 (pc := 189) (v := 1) hK dX8_goes_189 (by decide) rfl (by decide) ?_
            refine j_goto (pc := 192) (tgt := 112) hK dX8_goes_192 (by decide) ?_
            rw [nI_1]
            exact ih'
          · have hb0 : ¬ s / 2 ^ i % 2 = 1 := fun z => absurd c127 (by rw [z]; decide)
            rw [if_neg hb0] at ih'
            refine J.mono (P' := YG Γ L f g T _ pre) (fun h w => ⟨f2, g2, w, he, ht, ha, hb, hc⟩) ?_
            refine j_goto (pc := 130) (tgt := 189) hK dX8_goes_130 (by decide) ?_
            refine j_iinc6 (pc := 189) (v := 1) hK dX8_goes_189 (by decide) rfl (by decide) ?_
            refine j_goto (pc := 192) (tgt := 112) hK dX8_goes_192 (by decide) ?_
            rw [nI_1]
            exact ih'
      refine j_iload_n (pc := 0) hK dX8_goes_0 rfl ?_
      refine j_if_ne (pc := 1) (tgt := 75) hK dX8_goes_1 (by decide) (fun c1 => ?_) (fun c1 => absurd c1 (by rw [show (0 : Int32) = nI 0 by decide, nI_eq (by omega) (by decide)]; exact hs0))
      refine j_iload (pc := 75) hK dX8_goes_75 rfl ?_
      refine j_aload_n (pc := 77) hK dX8_goes_77 rfl ?_
      refine y_getI (pc := 78) (k := 11) hK (by decide) rfl q1251 rfl dX8_goes_78 ?_
      refine j_icmp_ne (pc := 81) (tgt := 109) hK dX8_goes_81 (by decide) (fun c81 => ?_) (fun c81 => absurd c81 (by rw [e11]; exact hh))
      refine j_iconst (pc := 109) (v := 0) hK dX8_goes_109 (by decide) ?_
      refine j_ist6 (pc := 110) hK dX8_goes_110 (by decide) rfl ?_
      refine J.mono (P' := YG Γ L f g T acc pre) (fun h w => ⟨f1, g1, w, he, ht, ha, hb, hc⟩) ?_
      exact loop nb 0 (by omega)
theorem c_Ygoes {nb : Nat} (hn : nb ≤ 7) (e0 : f 0 = nI nb) (h11 : ¬ (0 : Int32) = f 11) : ∀ (n s : Nat) (pre : List Nat) (acc : Acc) (here towed gone : Int32), pc7 s = n → s < 128 → pre.length + pc7 s ≤ 7 → (∀ os, tmI f g here towed gone os = tmI f g 0 0 0 (pre ++ os)) → Ct Γ A yX8_goes wX8_goes (2 * n + 4) 0 0 [.ref (L 40), .int (nI s), .int (nI pre.length), .int here, .int towed, .int gone] (YG Γ L f g T acc pre) (RV (YG Γ L f g T (enI f g nb (pc7 s) s pre acc) pre)) ∧ (¬ towed = f 11 → Ct Γ A yX8_goes wX8_goes (2 * n + 3) 0 0 [.ref (L 40), .int (nI s), .int (nI pre.length), .int here, .int towed, .int gone] (YG Γ L f g T acc pre) (RV (YG Γ L f g T (enI f g nb (pc7 s) s pre acc) pre))) := by
  intro n
  induction n with
  | zero =>
    intro s pre acc here towed gone hp hs hl htm
    have hs0 := (pc_0 s hs).mp hp
    have hr : ∀ i, i < nb → s / 2 ^ i % 2 = 1 → False := fun i _ h => by subst hs0; simp at h
    exact ⟨goes_body hn e0 h11 hs hl htm (by omega) (fun _ h => absurd hs0 h) (fun i a b => (hr i a b).elim), fun _ => goes_body hn e0 h11 hs hl htm (by omega) (fun _ h => absurd hs0 h) (fun i a b => (hr i a b).elim)⟩
  | succ n ih =>
    intro s pre acc here towed gone hp hs hl htm
    have hrec : ∀ d, 2 * n + 4 < d → ∀ (here towed gone : Int32), (∀ os, tmI f g here towed gone os = tmI f g 0 0 0 (pre ++ os)) → ∀ i, i < nb → s / 2 ^ i % 2 = 1 → ¬ towed = f 11 → ∀ acc : Acc, ∃ d', d' < d ∧ Ct Γ A yX8_goes wX8_goes d' 0 0 [.ref (L 40), .int (nI (s - 2 ^ i)), .int (nI (pre ++ [i]).length), .int (g 3 (nI i)), .int (towed + 1), .int (gone + farI here (g 3 (nI i)) * (f 12 + towed))] (YG Γ L f g T acc (pre ++ [i])) (RV (YG Γ L f g T (enI f g nb (pc7 (s - 2 ^ i)) (s - 2 ^ i) (pre ++ [i]) acc) (pre ++ [i]))) := by
      intro d hd here towed gone htm i hi hb ht acc
      obtain ⟨-, ep, ele⟩ := clr_s s hs i (by omega) hb
      refine ⟨2 * n + 4, hd, (ih (s - 2 ^ i) (pre ++ [i]) acc _ _ _ (by omega) (Nat.lt_of_le_of_lt (Nat.sub_le _ _) hs) (by simp; omega) (fun os => ?_)).1⟩
      rw [tm_b here towed gone i os ht, htm, List.append_assoc]
      rfl
    have h2 : ∀ (here towed gone : Int32), (∀ os, tmI f g here towed gone os = tmI f g 0 0 0 (pre ++ os)) → ¬ towed = f 11 → Ct Γ A yX8_goes wX8_goes (2 * (n + 1) + 3) 0 0 [.ref (L 40), .int (nI s), .int (nI pre.length), .int here, .int towed, .int gone] (YG Γ L f g T acc pre) (RV (YG Γ L f g T (enI f g nb (pc7 s) s pre acc) pre)) := fun here towed gone htm ht => goes_body hn e0 h11 hs hl htm (by omega) (fun z => absurd z ht) (hrec _ (by omega) here towed gone htm)
    refine ⟨goes_body hn e0 h11 hs hl htm (by omega) (fun ht _ => ⟨2 * (n + 1) + 3, by omega, h2 _ _ _ (fun os => ?_) h11⟩) (hrec _ (by omega) here towed gone htm), h2 here towed gone htm⟩
    rw [tm_h here towed gone os ht h11]
    exact htm os
theorem c_Yfetches {nb : Nat} (hn : nb ≤ 7) (e0 : f 0 = nI nb) (h11 : ¬ (0 : Int32) = f 11) {s : Nat} (hs : s < 128) : Ct Γ A yX8_fetches wX8_fetches 20 0 0 [.ref (L 40), .int (nI s)] (YI Γ L f g T) (RI fun r h => r = (fetI f g nb s).1 ∧ YG Γ L f g T (fetI f g nb s) [] h) := by
  refine Ct.of (cc := cX8_fetches) (nL := 2) (ret := (some .int)) (ls := [some (.ref (L 40)), some (.int (nI s))]) rfl rfl rfl (nle rfl) ?_
  intro K hK hQ
  have hp7 : pc7 s ≤ 7 := by unfold pc7; omega
  refine yi_open fun f1 g1 he ht => ?_
  refine j_aload_n (pc := 0) hK dX8_fetches_0 rfl ?_
  refine j_iconst (pc := 1) (v := (-1)) hK dX8_fetches_1 (by decide) ?_
  refine y_putI (pc := 2) (k := 29) hK (by decide) rfl q1269 rfl rfl rfl rfl dX8_fetches_2 ?_
  refine J.mono (P' := YG Γ L f g T (-1, []) []) (fun h w => ⟨_, _, w, he.junkF rfl _, ht.putF (by decide) _, rfl, fun j x hx => by simp at hx, fun j x hx => by simp at hx⟩) ?_
  refine j_aload_n (pc := 5) hK dX8_fetches_5 rfl ?_
  refine j_iload_n (pc := 6) hK dX8_fetches_6 rfl ?_
  refine j_iconst (pc := 7) (v := 0) hK dX8_fetches_7 (by decide) ?_
  refine j_iconst (pc := 8) (v := 0) hK dX8_fetches_8 (by decide) ?_
  refine j_iconst (pc := 9) (v := 0) hK dX8_fetches_9 (by decide) ?_
  refine j_iconst (pc := 10) (v := 0) hK dX8_fetches_10 (by decide) ?_
  refine j_callV (pc := 11) hK hQ ((c_Ygoes hn e0 h11 (pc7 s) s [] (-1, []) 0 0 0 rfl hs (by simp; exact hp7) (fun os => rfl)).1) cal_X8_goes yg_isC q1462 dX8_fetches_11 rfl rfl (by omega) (nle rfl) (nle rfl) (nle rfl) (kr_v ?_) kx_v
  refine yg_open fun f2 g2 he ht ha hb hc => ?_
  refine j_aload_n (pc := 14) hK dX8_fetches_14 rfl ?_
  refine y_getI (pc := 15) (k := 29) hK (by decide) rfl q1269 rfl dX8_fetches_15 ?_
  exact j_iret (pc := 18) hK hQ (nle rfl) (nle rfl) dX8_fetches_18 (fun h w => ⟨_, rfl, ha, _, _, w, he, ht, ha, hb, hc⟩)
end Y10
