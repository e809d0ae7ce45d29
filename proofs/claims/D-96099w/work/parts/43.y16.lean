/-! the reference reads: sum, not, one; all of them -/
set_option maxRecDepth 100000
section Y16
variable {Γ : Gam} {A : Nat → Prop} {L : Nat → Nat} {f : Nat → Int32} {g : Nat → Int32 → Int32} {T : TX} {B : Int32 → Int32} {n tx m : Nat}
theorem YZ.ok {o u : Nat} {c c' : List Int32} {h : PH} (w : YP Γ L f g T n B c o u h) (e : c = c') : YZ Γ L f g T n B o (u, some c') (.returned (some (.int (b2i True)))) h := by
  subst e
  exact ⟨_, rfl, rfl, w⟩
theorem s_Ysum (hn : f 15 = nI n) (hn2 : n ≤ 160) (h17 : f 17 = nI tx) (htx : tx < 6) (IH : ∀ j, j ≤ m → YCt Γ A L f g T n B j) : YCs Γ A L f g T n B (m + 1) := by
  intro p o c0 x hp hc0 ho hx
  rw [pr_5] at hx
  refine Ct.of (cc := cX8_sum) (nL := 2) (ret := (some .boolean)) (ls := [some (.ref (L 40)), none]) rfl rfl rfl (nle rfl) ?_
  intro K hK hQ
  have loop : ∀ (j : Nat), j ≤ m → ∀ (q : Nat) (c1 : List Int32) (y : Nat × Option (List Int32)), q ≤ n → c1.length ≤ q → pr (tp g) n j 6 q o = some y → ext c1 y = ext c0 x → J Γ A K 9 [some (.ref (L 40)), none] [] (YP Γ L f g T n B c1 o q) 0 0 := by
    intro j
    induction j with
    | zero => intro _ q c1 y _ _ h; cases h
    | succ j ihj =>
      intro hj q c1 y hq hc1 hy hz
      rw [pr_6] at hy
      have hE := en_le (t := tp g) hq
      by_cases hw : isS (tp g) n q 43 ∨ isS (tp g) n q 45
      · rw [if_pos hw] at hy
        have hgt := en_gt hq (hw.elim isS_0 isS_0)
        have rest : ∀ v : Int32, v = (if isS (tp g) n q 43 then -16 else -17) → J Γ A K 44 [some (.ref (L 40)), some (.int v)] [] (YP Γ L f g T n B c1 o q) 0 0 := by
          intro v hv
          rw [← hv] at hy
          rcases sq_x hy with ⟨u, e1, rfl⟩ | ⟨u, d, y', e1, e2, e3⟩
          · have hb : Ct Γ A yX8_term wX8_term (7 * (5 - o) + 8) 0 0 [.ref (L 40)] (YP Γ L f g T n B c1 o (enP (tp g) n q)) (RI fun r h => r = b2i False ∧ YB Γ L f g T n B u h) := IH j (by omega) _ _ _ _ hE.2.1 (by omega) ho (ap_y e1)
            refine j_aload_n (pc := 44) hK dX8_sum_44 rfl ?_
            refine J.mono (fun h w => YP.toN w) ?_
            refine j_callV (pc := 45) hK hQ (c_Ynext hn hn2 hE.2.1) cal_X8_next yn_isC q1174 dX8_sum_45 rfl rfl (by omega) (nle rfl) (nle rfl) (nle rfl) (kr_v ?_) kx_v
            refine j_aload_n (pc := 48) hK dX8_sum_48 rfl ?_
            refine j_callV (pc := 49) hK hQ (hb) cal_X8_term yp_isC q1214 dX8_sum_49 rfl rfl (by omega) (nle rfl) (nle rfl) (nle rfl) (kr_i fun r49 => ?_) kx_i
            refine J.pre fun e49 => ?_
            subst e49
            refine j_if_ne_b (pc := 52) (tgt := 57) hK dX8_sum_52 (by decide) (fun c52 => absurd c52 (fun z => z)) (fun c52 => ?_)
            refine j_iconst (pc := 55) (v := 0) hK dX8_sum_55 (by decide) ?_
            exact j_bret (pc := 56) hK hQ (nle rfl) (nle rfl) dX8_sum_56 (fun h w => ⟨Or.inl rfl, by rw [← hz]; exact ⟨_, rfl, rfl, w⟩⟩)
          · obtain ⟨c, e4, rfl⟩ := ap_x e1
            have hl := (pr_len _ _ _ _ _ hE.2.1 e4)
            have hl1 := hl.2.1
            have hl2 := hl.2.2 c rfl
            simp only at hl1 hl2
            have hb : Ct Γ A yX8_term wX8_term (7 * (5 - o) + 8) 0 0 [.ref (L 40)] (YP Γ L f g T n B c1 o (enP (tp g) n q)) (RI fun r h => r = b2i True ∧ YP Γ L f g T n B (c1 ++ c) o u h) := IH j (by omega) _ _ _ _ hE.2.1 (by omega) ho e4
            refine j_aload_n (pc := 44) hK dX8_sum_44 rfl ?_
            refine J.mono (fun h w => YP.toN w) ?_
            refine j_callV (pc := 45) hK hQ (c_Ynext hn hn2 hE.2.1) cal_X8_next yn_isC q1174 dX8_sum_45 rfl rfl (by omega) (nle rfl) (nle rfl) (nle rfl) (kr_v ?_) kx_v
            refine j_aload_n (pc := 48) hK dX8_sum_48 rfl ?_
            refine j_callV (pc := 49) hK hQ (hb) cal_X8_term yp_isC q1214 dX8_sum_49 rfl rfl (by omega) (nle rfl) (nle rfl) (nle rfl) (kr_i fun r49 => ?_) kx_i
            refine J.pre fun e49 => ?_
            subst e49
            refine j_if_ne_b (pc := 52) (tgt := 57) hK dX8_sum_52 (by decide) (fun c52 => ?_) (fun c52 => absurd trivial c52)
            refine j_aload_n (pc := 57) hK dX8_sum_57 rfl ?_
            refine j_iload_n (pc := 58) hK dX8_sum_58 rfl ?_
            refine j_callV (pc := 59) hK hQ (c_Yput _ h17 htx (by simp only [List.length_append]; omega)) cal_X8_put yp_isC q1206 dX8_sum_59 rfl rfl (by omega) (nle rfl) (nle rfl) (nle rfl) (kr_v ?_) kx_v
            refine j_goto (pc := 62) (tgt := 9) hK dX8_sum_62 (by decide) ?_
            refine J.fg _ ?_ (ihj (by omega) u (c1 ++ c ++ [v]) y' hl1 (by simp; omega) e2 ?_)
            · exact ⟨rfl, trivial⟩
            · rw [← hz, ← e3 c1, List.append_assoc]
        refine j_aload_n (pc := 9) hK dX8_sum_9 rfl ?_
        refine j_bipush (pc := 10) (v := 43) hK dX8_sum_10 (by decide) ?_
        refine j_callV (pc := 12) hK hQ (c_Yis2 _) cal_X8_is_2 yp_isC q1232 dX8_sum_12 rfl rfl (by omega) (nle rfl) (nle rfl) (nle rfl) (kr_i fun r12 => ?_) kx_i
        refine J.pre fun e12 => ?_
        subst e12
        refine j_if_ne_b (pc := 15) (tgt := 27) hK dX8_sum_15 (by decide) (fun c15 => ?_) (fun c15 => ?_)
        · refine j_aload_n (pc := 27) hK dX8_sum_27 rfl ?_
          refine j_bipush (pc := 28) (v := 43) hK dX8_sum_28 (by decide) ?_
          refine j_callV (pc := 30) hK hQ (c_Yis2 _) cal_X8_is_2 yp_isC q1232 dX8_sum_30 rfl rfl (by omega) (nle rfl) (nle rfl) (nle rfl) (kr_i fun r30 => ?_) kx_i
          refine J.pre fun e30 => ?_
          subst e30
          refine j_if_eq_b (pc := 33) (tgt := 41) hK dX8_sum_33 (by decide) (fun c33 => ?_) (fun c33 => ?_)
          · refine j_bipush (pc := 41) (v := (-17)) hK dX8_sum_41 (by decide) ?_
            refine j_ist1 (pc := 43) hK dX8_sum_43 (by decide) rfl ?_
            first | exact rest _ (if_pos c33).symm | exact rest _ (if_neg c33).symm
          · refine j_bipush (pc := 36) (v := (-16)) hK dX8_sum_36 (by decide) ?_
            refine j_goto (pc := 38) (tgt := 43) hK dX8_sum_38 (by decide) ?_
            refine j_ist1 (pc := 43) hK dX8_sum_43 (by decide) rfl ?_
            first | exact rest _ (if_pos c33).symm | exact rest _ (if_neg c33).symm
        · refine j_aload_n (pc := 18) hK dX8_sum_18 rfl ?_
          refine j_bipush (pc := 19) (v := 45) hK dX8_sum_19 (by decide) ?_
          refine j_callV (pc := 21) hK hQ (c_Yis2 _) cal_X8_is_2 yp_isC q1232 dX8_sum_21 rfl rfl (by omega) (nle rfl) (nle rfl) (nle rfl) (kr_i fun r21 => ?_) kx_i
          refine J.pre fun e21 => ?_
          subst e21
          refine j_if_eq_b (pc := 24) (tgt := 65) hK dX8_sum_24 (by decide) (fun c24 => ?_) (fun c24 => ?_)
          · exact absurd hw (fun z => z.elim c15 c24)
          · refine j_aload_n (pc := 27) hK dX8_sum_27 rfl ?_
            refine j_bipush (pc := 28) (v := 43) hK dX8_sum_28 (by decide) ?_
            refine j_callV (pc := 30) hK hQ (c_Yis2 _) cal_X8_is_2 yp_isC q1232 dX8_sum_30 rfl rfl (by omega) (nle rfl) (nle rfl) (nle rfl) (kr_i fun r30 => ?_) kx_i
            refine J.pre fun e30 => ?_
            subst e30
            refine j_if_eq_b (pc := 33) (tgt := 41) hK dX8_sum_33 (by decide) (fun c33 => ?_) (fun c33 => ?_)
            · refine j_bipush (pc := 41) (v := (-17)) hK dX8_sum_41 (by decide) ?_
              refine j_ist1 (pc := 43) hK dX8_sum_43 (by decide) rfl ?_
              first | exact rest _ (if_pos c33).symm | exact rest _ (if_neg c33).symm
            · refine j_bipush (pc := 36) (v := (-16)) hK dX8_sum_36 (by decide) ?_
              refine j_goto (pc := 38) (tgt := 43) hK dX8_sum_38 (by decide) ?_
              refine j_ist1 (pc := 43) hK dX8_sum_43 (by decide) rfl ?_
              first | exact rest _ (if_pos c33).symm | exact rest _ (if_neg c33).symm
      · rw [if_neg hw] at hy
        cases hy
        refine j_aload_n (pc := 9) hK dX8_sum_9 rfl ?_
        refine j_bipush (pc := 10) (v := 43) hK dX8_sum_10 (by decide) ?_
        refine j_callV (pc := 12) hK hQ (c_Yis2 _) cal_X8_is_2 yp_isC q1232 dX8_sum_12 rfl rfl (by omega) (nle rfl) (nle rfl) (nle rfl) (kr_i fun r12 => ?_) kx_i
        refine J.pre fun e12 => ?_
        subst e12
        refine j_if_ne_b (pc := 15) (tgt := 27) hK dX8_sum_15 (by decide) (fun c15 => ?_) (fun c15 => ?_)
        · exact absurd (by first | exact Or.inl c15 | exact Or.inr c24) hw
        · refine j_aload_n (pc := 18) hK dX8_sum_18 rfl ?_
          refine j_bipush (pc := 19) (v := 45) hK dX8_sum_19 (by decide) ?_
          refine j_callV (pc := 21) hK hQ (c_Yis2 _) cal_X8_is_2 yp_isC q1232 dX8_sum_21 rfl rfl (by omega) (nle rfl) (nle rfl) (nle rfl) (kr_i fun r21 => ?_) kx_i
          refine J.pre fun e21 => ?_
          subst e21
          refine j_if_eq_b (pc := 24) (tgt := 65) hK dX8_sum_24 (by decide) (fun c24 => ?_) (fun c24 => ?_)
          · refine j_iconst (pc := 65) (v := 1) hK dX8_sum_65 (by decide) ?_
            exact j_bret (pc := 66) hK hQ (nle rfl) (nle rfl) dX8_sum_66 (fun h w => ⟨Or.inr rfl, by rw [← hz]; exact YZ.ok w (List.append_nil _).symm⟩)
          · exact absurd (by first | exact Or.inl c15 | exact Or.inr c24) hw
  rcases sq_x hx with ⟨q, e1, rfl⟩ | ⟨q, c, y, e1, e2, e3⟩
  · have hb : Ct Γ A yX8_term wX8_term (7 * (5 - o) + 8) 0 0 [.ref (L 40)] (YP Γ L f g T n B c0 o p) (RI fun r h => r = b2i False ∧ YB Γ L f g T n B q h) := IH m (Nat.le_refl _) _ _ _ _ hp hc0 ho e1
    refine j_aload_n (pc := 0) hK dX8_sum_0 rfl ?_
    refine j_callV (pc := 1) hK hQ (hb) cal_X8_term yp_isC q1214 dX8_sum_1 rfl rfl (by omega) (nle rfl) (nle rfl) (nle rfl) (kr_i fun r1 => ?_) kx_i
    refine J.pre fun e1 => ?_
    subst e1
    refine j_if_ne_b (pc := 4) (tgt := 9) hK dX8_sum_4 (by decide) (fun c4 => absurd c4 (fun z => z)) (fun c4 => ?_)
    refine j_iconst (pc := 7) (v := 0) hK dX8_sum_7 (by decide) ?_
    exact j_bret (pc := 8) hK hQ (nle rfl) (nle rfl) dX8_sum_8 (fun h w => ⟨Or.inl rfl, ⟨_, rfl, rfl, w⟩⟩)
  · have hl := (pr_len _ _ _ _ _ hp e1)
    have hl1 := hl.2.1
    have hl2 := hl.2.2 c rfl
    simp only at hl1 hl2
    have hb : Ct Γ A yX8_term wX8_term (7 * (5 - o) + 8) 0 0 [.ref (L 40)] (YP Γ L f g T n B c0 o p) (RI fun r h => r = b2i True ∧ YP Γ L f g T n B (c0 ++ c) o q h) := IH m (Nat.le_refl _) _ _ _ _ hp hc0 ho e1
    refine j_aload_n (pc := 0) hK dX8_sum_0 rfl ?_
    refine j_callV (pc := 1) hK hQ (hb) cal_X8_term yp_isC q1214 dX8_sum_1 rfl rfl (by omega) (nle rfl) (nle rfl) (nle rfl) (kr_i fun r1 => ?_) kx_i
    refine J.pre fun e1 => ?_
    subst e1
    refine j_if_ne_b (pc := 4) (tgt := 9) hK dX8_sum_4 (by decide) (fun c4 => ?_) (fun c4 => absurd trivial c4)
    exact loop m (Nat.le_refl _) q (c0 ++ c) y hl1 (by rw [List.length_append]; omega) e2 (e3 c0)
end Y16
