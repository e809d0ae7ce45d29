/-! the reference reads: any, both, not, sum, term, one -/
set_option maxRecDepth 100000
section P15
def ext (c1 : List Int32) (y : Nat × Option (List Int32)) : Nat × Option (List Int32) := (y.1, y.2.map (c1 ++ ·))
theorem sq_x {r : PO} {k : Nat → PO} {x : Nat × Option (List Int32)} (h : sq r k = some x) : (∃ q, r = some (q, none) ∧ x = (q, none)) ∨ ∃ q c y, r = some (q, some c) ∧ k q = some y ∧ ∀ c1, ext (c1 ++ c) y = ext c1 x := by
  rcases sq_c h with ⟨q, e1, rfl⟩ | ⟨q, c, e1, ⟨u, e2, rfl⟩ | ⟨u, c', e2, rfl⟩⟩
  · exact Or.inl ⟨q, e1, rfl⟩
  · exact Or.inr ⟨q, c, _, e1, e2, fun _ => rfl⟩
  · exact Or.inr ⟨q, c, _, e1, e2, fun c1 => by simp [ext]⟩
theorem ap_x {v : Int32} {r : PO} {u : Nat} {d : List Int32} (h : ap v r = some (u, some d)) : ∃ c, r = some (u, some c) ∧ d = c ++ [v] := by
  rcases ap_c h with ⟨q, e1, e2⟩ | ⟨q, c, e1, e2⟩
  · cases e2
  · cases e2; exact ⟨c, e1, rfl⟩
theorem ap_y {v : Int32} {r : PO} {u : Nat} (h : ap v r = some (u, none)) : r = some (u, none) := by
  rcases ap_c h with ⟨q, e1, e2⟩ | ⟨q, c, e1, e2⟩
  · cases e2; exact e1
  · cases e2
end P15
section Y15
variable {Γ : Gam} {A : Nat → Prop} {L : Nat → Nat} {f : Nat → Int32} {g : Nat → Int32 → Int32} {T : TX} {B : Int32 → Int32} {n tx m : Nat}
def YB (Γ : Gam) (L : Nat → Nat) (f : Nat → Int32) (g : Nat → Int32 → Int32) (T : TX) (n : Nat) (B : Int32 → Int32) (p : Nat) (h : PH) : Prop := ∃ c1 o1, YP Γ L f g T n B c1 o1 p h
def YZ (Γ : Gam) (L : Nat → Nat) (f : Nat → Int32) (g : Nat → Int32 → Int32) (T : TX) (n : Nat) (B : Int32 → Int32) (o : Nat) : Nat × Option (List Int32) → Outcome → PH → Prop
  | (u, some c) => RI fun r h => r = b2i True ∧ YP Γ L f g T n B c o u h
  | (u, none) => RI fun r h => r = b2i False ∧ YB Γ L f g T n B u h
def YCa (Γ : Gam) (A : Nat → Prop) (L : Nat → Nat) (f : Nat → Int32) (g : Nat → Int32 → Int32) (T : TX) (n : Nat) (B : Int32 → Int32) (m : Nat) : Prop := ∀ (p o : Nat) (c0 : List Int32) (x : Nat × Option (List Int32)), p ≤ n → c0.length ≤ p → o ≤ 5 → pr (tp g) n m 0 p o = some x → Ct Γ A yX8_any wX8_any (7 * (5 - o) + 12) 0 0 [.ref (L 40)] (YP Γ L f g T n B c0 o p) (YZ Γ L f g T n B o (ext c0 x))
def YCb (Γ : Gam) (A : Nat → Prop) (L : Nat → Nat) (f : Nat → Int32) (g : Nat → Int32 → Int32) (T : TX) (n : Nat) (B : Int32 → Int32) (m : Nat) : Prop := ∀ (p o : Nat) (c0 : List Int32) (x : Nat × Option (List Int32)), p ≤ n → c0.length ≤ p → o ≤ 5 → pr (tp g) n m 2 p o = some x → Ct Γ A yX8_both wX8_both (7 * (5 - o) + 11) 0 0 [.ref (L 40)] (YP Γ L f g T n B c0 o p) (YZ Γ L f g T n B o (ext c0 x))
def YCn (Γ : Gam) (A : Nat → Prop) (L : Nat → Nat) (f : Nat → Int32) (g : Nat → Int32 → Int32) (T : TX) (n : Nat) (B : Int32 → Int32) (m : Nat) : Prop := ∀ (p o : Nat) (c0 : List Int32) (x : Nat × Option (List Int32)), p ≤ n → c0.length ≤ p → o ≤ 5 → pr (tp g) n m 4 p o = some x → Ct Γ A yX8_not wX8_not (7 * (5 - o) + 10) 0 0 [.ref (L 40)] (YP Γ L f g T n B c0 o p) (YZ Γ L f g T n B o (ext c0 x))
def YCs (Γ : Gam) (A : Nat → Prop) (L : Nat → Nat) (f : Nat → Int32) (g : Nat → Int32 → Int32) (T : TX) (n : Nat) (B : Int32 → Int32) (m : Nat) : Prop := ∀ (p o : Nat) (c0 : List Int32) (x : Nat × Option (List Int32)), p ≤ n → c0.length ≤ p → o ≤ 5 → pr (tp g) n m 5 p o = some x → Ct Γ A yX8_sum wX8_sum (7 * (5 - o) + 9) 0 0 [.ref (L 40)] (YP Γ L f g T n B c0 o p) (YZ Γ L f g T n B o (ext c0 x))
def YCt (Γ : Gam) (A : Nat → Prop) (L : Nat → Nat) (f : Nat → Int32) (g : Nat → Int32 → Int32) (T : TX) (n : Nat) (B : Int32 → Int32) (m : Nat) : Prop := ∀ (p o : Nat) (c0 : List Int32) (x : Nat × Option (List Int32)), p ≤ n → c0.length ≤ p → o ≤ 5 → pr (tp g) n m 7 p o = some x → Ct Γ A yX8_term wX8_term (7 * (5 - o) + 8) 0 0 [.ref (L 40)] (YP Γ L f g T n B c0 o p) (YZ Γ L f g T n B o (ext c0 x))
def YCo (Γ : Gam) (A : Nat → Prop) (L : Nat → Nat) (f : Nat → Int32) (g : Nat → Int32 → Int32) (T : TX) (n : Nat) (B : Int32 → Int32) (m : Nat) : Prop := ∀ (p o : Nat) (c0 : List Int32) (x : Nat × Option (List Int32)), p ≤ n → c0.length ≤ p → o ≤ 5 → pr (tp g) n m 9 p o = some x → Ct Γ A yX8_one wX8_one (7 * (5 - o) + 7) 0 0 [.ref (L 40)] (YP Γ L f g T n B c0 o p) (YZ Γ L f g T n B o (ext c0 x))
theorem s_Yany (hn : f 15 = nI n) (hn2 : n ≤ 160) (h17 : f 17 = nI tx) (htx : tx < 6) (IH : ∀ j, j ≤ m → YCb Γ A L f g T n B j) : YCa Γ A L f g T n B (m + 1) := by
  intro p o c0 x hp hc0 ho hx
  rw [pr_0] at hx
  refine Ct.of (cc := cX8_any) (nL := 1) (ret := (some .boolean)) (ls := [some (.ref (L 40))]) rfl rfl rfl (nle rfl) ?_
  intro K hK hQ
  obtain ⟨a200, v200, hev200, hS200⟩ := ls_X8_200 hK.g
  have loop : ∀ (j : Nat), j ≤ m → ∀ (q : Nat) (c1 : List Int32) (y : Nat × Option (List Int32)), q ≤ n → c1.length ≤ q → pr (tp g) n j 1 q o = some y → ext c1 y = ext c0 x → J Γ A K 9 [some (.ref (L 40))] [] (YP Γ L f g T n B c1 o q) 0 0 := by
    intro j
    induction j with
    | zero => intro _ q c1 y _ _ h; cases h
    | succ j ihj =>
      intro hj q c1 y hq hc1 hy hz
      rw [pr_1] at hy
      have hE := en_le (t := tp g) hq
      by_cases hw : isW (tp g) n q wOr
      · rw [if_pos hw] at hy
        have hgt := en_gt hq (isW_0 hw)
        rcases sq_x hy with ⟨u, e1, rfl⟩ | ⟨u, d, y', e1, e2, e3⟩
        · have hb : Ct Γ A yX8_both wX8_both (7 * (5 - o) + 11) 0 0 [.ref (L 40)] (YP Γ L f g T n B c1 o (enP (tp g) n q)) (RI fun r h => r = b2i False ∧ YB Γ L f g T n B u h) := IH j (by omega) _ _ _ _ hE.2.1 (by omega) ho (ap_y e1)
          refine j_aload_n (pc := 9) hK dX8_any_9 rfl ?_
          refine j_ldcs (pc := 10) hK q1237 hev200 dX8_any_10 ?_
          refine j_callV (pc := 12) hK hQ (c_Yis hS200 (by decide) hn2 hq) cal_X8_is yp_isC q1189 dX8_any_12 rfl rfl (by omega) (nle rfl) (nle rfl) (nle rfl) (kr_i fun r12 => ?_) kx_i
          refine J.pre fun e12 => ?_
          subst e12
          refine j_if_eq_b (pc := 15) (tgt := 40) hK dX8_any_15 (by decide) (fun c15 => absurd hw c15) (fun c15 => ?_)
          refine j_aload_n (pc := 18) hK dX8_any_18 rfl ?_
          refine J.mono (fun h w => YP.toN w) ?_
          refine j_callV (pc := 19) hK hQ (c_Ynext hn hn2 hE.2.1) cal_X8_next yn_isC q1174 dX8_any_19 rfl rfl (by omega) (nle rfl) (nle rfl) (nle rfl) (kr_v ?_) kx_v
          refine j_aload_n (pc := 22) hK dX8_any_22 rfl ?_
          refine j_callV (pc := 23) hK hQ (hb) cal_X8_both yp_isC q1197 dX8_any_23 rfl rfl (by omega) (nle rfl) (nle rfl) (nle rfl) (kr_i fun r23 => ?_) kx_i
          refine J.pre fun e23 => ?_
          subst e23
          refine j_if_ne_b (pc := 26) (tgt := 31) hK dX8_any_26 (by decide) (fun c26 => absurd c26 (fun z => z)) (fun c26 => ?_)
          refine j_iconst (pc := 29) (v := 0) hK dX8_any_29 (by decide) ?_
          exact j_bret (pc := 30) hK hQ (nle rfl) (nle rfl) dX8_any_30 (fun h w => ⟨Or.inl rfl, by rw [← hz]; exact ⟨_, rfl, rfl, w⟩⟩)
        · obtain ⟨c, e4, rfl⟩ := ap_x e1
          have hl := (pr_len _ _ _ _ _ hE.2.1 e4)
          have hl1 := hl.2.1
          have hl2 := hl.2.2 c rfl
          simp only at hl1 hl2
          have hb : Ct Γ A yX8_both wX8_both (7 * (5 - o) + 11) 0 0 [.ref (L 40)] (YP Γ L f g T n B c1 o (enP (tp g) n q)) (RI fun r h => r = b2i True ∧ YP Γ L f g T n B (c1 ++ c) o u h) := IH j (by omega) _ _ _ _ hE.2.1 (by omega) ho e4
          refine j_aload_n (pc := 9) hK dX8_any_9 rfl ?_
          refine j_ldcs (pc := 10) hK q1237 hev200 dX8_any_10 ?_
          refine j_callV (pc := 12) hK hQ (c_Yis hS200 (by decide) hn2 hq) cal_X8_is yp_isC q1189 dX8_any_12 rfl rfl (by omega) (nle rfl) (nle rfl) (nle rfl) (kr_i fun r12 => ?_) kx_i
          refine J.pre fun e12 => ?_
          subst e12
          refine j_if_eq_b (pc := 15) (tgt := 40) hK dX8_any_15 (by decide) (fun c15 => absurd hw c15) (fun c15 => ?_)
          refine j_aload_n (pc := 18) hK dX8_any_18 rfl ?_
          refine J.mono (fun h w => YP.toN w) ?_
          refine j_callV (pc := 19) hK hQ (c_Ynext hn hn2 hE.2.1) cal_X8_next yn_isC q1174 dX8_any_19 rfl rfl (by omega) (nle rfl) (nle rfl) (nle rfl) (kr_v ?_) kx_v
          refine j_aload_n (pc := 22) hK dX8_any_22 rfl ?_
          refine j_callV (pc := 23) hK hQ (hb) cal_X8_both yp_isC q1197 dX8_any_23 rfl rfl (by omega) (nle rfl) (nle rfl) (nle rfl) (kr_i fun r23 => ?_) kx_i
          refine J.pre fun e23 => ?_
          subst e23
          refine j_if_ne_b (pc := 26) (tgt := 31) hK dX8_any_26 (by decide) (fun c26 => ?_) (fun c26 => absurd trivial c26)
          refine j_aload_n (pc := 31) hK dX8_any_31 rfl ?_
          refine j_bipush (pc := 32) (v := (-11)) hK dX8_any_32 (by decide) ?_
          refine j_callV (pc := 34) hK hQ (c_Yput _ h17 htx (by rw [List.length_append]; omega)) cal_X8_put yp_isC q1206 dX8_any_34 rfl rfl (by omega) (nle rfl) (nle rfl) (nle rfl) (kr_v ?_) kx_v
          refine j_goto (pc := 37) (tgt := 9) hK dX8_any_37 (by decide) ?_
          refine ihj (by omega) u (c1 ++ c ++ [(-11)]) y' hl1 (by simp; omega) e2 ?_
          rw [← hz, ← e3 c1, List.append_assoc]
      · rw [if_neg hw] at hy
        cases hy
        refine j_aload_n (pc := 9) hK dX8_any_9 rfl ?_
        refine j_ldcs (pc := 10) hK q1237 hev200 dX8_any_10 ?_
        refine j_callV (pc := 12) hK hQ (c_Yis hS200 (by decide) hn2 hq) cal_X8_is yp_isC q1189 dX8_any_12 rfl rfl (by omega) (nle rfl) (nle rfl) (nle rfl) (kr_i fun r12 => ?_) kx_i
        refine J.pre fun e12 => ?_
        subst e12
        refine j_if_eq_b (pc := 15) (tgt := 40) hK dX8_any_15 (by decide) (fun c15 => ?_) (fun c15 => absurd c15 hw)
        refine j_iconst (pc := 40) (v := 1) hK dX8_any_40 (by decide) ?_
        exact j_bret (pc := 41) hK hQ (nle rfl) (nle rfl) dX8_any_41 (fun h w => ⟨Or.inr rfl, by rw [← hz]; exact ⟨_, rfl, rfl, by show YP Γ L f g T n B (c1 ++ []) o q h; rw [List.append_nil]; exact w⟩⟩)
  rcases sq_x hx with ⟨q, e1, rfl⟩ | ⟨q, c, y, e1, e2, e3⟩
  · have hb : Ct Γ A yX8_both wX8_both (7 * (5 - o) + 11) 0 0 [.ref (L 40)] (YP Γ L f g T n B c0 o p) (RI fun r h => r = b2i False ∧ YB Γ L f g T n B q h) := IH m (Nat.le_refl _) _ _ _ _ hp hc0 ho e1
    refine j_aload_n (pc := 0) hK dX8_any_0 rfl ?_
    refine j_callV (pc := 1) hK hQ (hb) cal_X8_both yp_isC q1197 dX8_any_1 rfl rfl (by omega) (nle rfl) (nle rfl) (nle rfl) (kr_i fun r1 => ?_) kx_i
    refine J.pre fun e1 => ?_
    subst e1
    refine j_if_ne_b (pc := 4) (tgt := 9) hK dX8_any_4 (by decide) (fun c4 => absurd c4 (fun z => z)) (fun c4 => ?_)
    refine j_iconst (pc := 7) (v := 0) hK dX8_any_7 (by decide) ?_
    exact j_bret (pc := 8) hK hQ (nle rfl) (nle rfl) dX8_any_8 (fun h w => ⟨Or.inl rfl, ⟨_, rfl, rfl, w⟩⟩)
  · have hl := (pr_len _ _ _ _ _ hp e1)
    have hl1 := hl.2.1
    have hl2 := hl.2.2 c rfl
    simp only at hl1 hl2
    have hb : Ct Γ A yX8_both wX8_both (7 * (5 - o) + 11) 0 0 [.ref (L 40)] (YP Γ L f g T n B c0 o p) (RI fun r h => r = b2i True ∧ YP Γ L f g T n B (c0 ++ c) o q h) := IH m (Nat.le_refl _) _ _ _ _ hp hc0 ho e1
    refine j_aload_n (pc := 0) hK dX8_any_0 rfl ?_
    refine j_callV (pc := 1) hK hQ (hb) cal_X8_both yp_isC q1197 dX8_any_1 rfl rfl (by omega) (nle rfl) (nle rfl) (nle rfl) (kr_i fun r1 => ?_) kx_i
    refine J.pre fun e1 => ?_
    subst e1
    refine j_if_ne_b (pc := 4) (tgt := 9) hK dX8_any_4 (by decide) (fun c4 => ?_) (fun c4 => absurd trivial c4)
    exact loop m (Nat.le_refl _) q (c0 ++ c) y hl1 (by rw [List.length_append]; omega) e2 (e3 c0)
theorem s_Yboth (hn : f 15 = nI n) (hn2 : n ≤ 160) (h17 : f 17 = nI tx) (htx : tx < 6) (IH : ∀ j, j ≤ m → YCn Γ A L f g T n B j) : YCb Γ A L f g T n B (m + 1) := by
  intro p o c0 x hp hc0 ho hx
  rw [pr_2] at hx
  refine Ct.of (cc := cX8_both) (nL := 1) (ret := (some .boolean)) (ls := [some (.ref (L 40))]) rfl rfl rfl (nle rfl) ?_
  intro K hK hQ
  obtain ⟨a212, v212, hev212, hS212⟩ := ls_X8_212 hK.g
  have loop : ∀ (j : Nat), j ≤ m → ∀ (q : Nat) (c1 : List Int32) (y : Nat × Option (List Int32)), q ≤ n → c1.length ≤ q → pr (tp g) n j 3 q o = some y → ext c1 y = ext c0 x → J Γ A K 9 [some (.ref (L 40))] [] (YP Γ L f g T n B c1 o q) 0 0 := by
    intro j
    induction j with
    | zero => intro _ q c1 y _ _ h; cases h
    | succ j ihj =>
      intro hj q c1 y hq hc1 hy hz
      rw [pr_3] at hy
      have hE := en_le (t := tp g) hq
      by_cases hw : isW (tp g) n q wAnd
      · rw [if_pos hw] at hy
        have hgt := en_gt hq (isW_0 hw)
        rcases sq_x hy with ⟨u, e1, rfl⟩ | ⟨u, d, y', e1, e2, e3⟩
        · have hb : Ct Γ A yX8_not wX8_not (7 * (5 - o) + 10) 0 0 [.ref (L 40)] (YP Γ L f g T n B c1 o (enP (tp g) n q)) (RI fun r h => r = b2i False ∧ YB Γ L f g T n B u h) := IH j (by omega) _ _ _ _ hE.2.1 (by omega) ho (ap_y e1)
          refine j_aload_n (pc := 9) hK dX8_both_9 rfl ?_
          refine j_ldcs (pc := 10) hK q1236 hev212 dX8_both_10 ?_
          refine j_callV (pc := 12) hK hQ (c_Yis hS212 (by decide) hn2 hq) cal_X8_is yp_isC q1189 dX8_both_12 rfl rfl (by omega) (nle rfl) (nle rfl) (nle rfl) (kr_i fun r12 => ?_) kx_i
          refine J.pre fun e12 => ?_
          subst e12
          refine j_if_eq_b (pc := 15) (tgt := 40) hK dX8_both_15 (by decide) (fun c15 => absurd hw c15) (fun c15 => ?_)
          refine j_aload_n (pc := 18) hK dX8_both_18 rfl ?_
          refine J.mono (fun h w => YP.toN w) ?_
          refine j_callV (pc := 19) hK hQ (c_Ynext hn hn2 hE.2.1) cal_X8_next yn_isC q1174 dX8_both_19 rfl rfl (by omega) (nle rfl) (nle rfl) (nle rfl) (kr_v ?_) kx_v
          refine j_aload_n (pc := 22) hK dX8_both_22 rfl ?_
          refine j_callV (pc := 23) hK hQ (hb) cal_X8_not yp_isC q1201 dX8_both_23 rfl rfl (by omega) (nle rfl) (nle rfl) (nle rfl) (kr_i fun r23 => ?_) kx_i
          refine J.pre fun e23 => ?_
          subst e23
          refine j_if_ne_b (pc := 26) (tgt := 31) hK dX8_both_26 (by decide) (fun c26 => absurd c26 (fun z => z)) (fun c26 => ?_)
          refine j_iconst (pc := 29) (v := 0) hK dX8_both_29 (by decide) ?_
          exact j_bret (pc := 30) hK hQ (nle rfl) (nle rfl) dX8_both_30 (fun h w => ⟨Or.inl rfl, by rw [← hz]; exact ⟨_, rfl, rfl, w⟩⟩)
        · obtain ⟨c, e4, rfl⟩ := ap_x e1
          have hl := (pr_len _ _ _ _ _ hE.2.1 e4)
          have hl1 := hl.2.1
          have hl2 := hl.2.2 c rfl
          simp only at hl1 hl2
          have hb : Ct Γ A yX8_not wX8_not (7 * (5 - o) + 10) 0 0 [.ref (L 40)] (YP Γ L f g T n B c1 o (enP (tp g) n q)) (RI fun r h => r = b2i True ∧ YP Γ L f g T n B (c1 ++ c) o u h) := IH j (by omega) _ _ _ _ hE.2.1 (by omega) ho e4
          refine j_aload_n (pc := 9) hK dX8_both_9 rfl ?_
          refine j_ldcs (pc := 10) hK q1236 hev212 dX8_both_10 ?_
          refine j_callV (pc := 12) hK hQ (c_Yis hS212 (by decide) hn2 hq) cal_X8_is yp_isC q1189 dX8_both_12 rfl rfl (by omega) (nle rfl) (nle rfl) (nle rfl) (kr_i fun r12 => ?_) kx_i
          refine J.pre fun e12 => ?_
          subst e12
          refine j_if_eq_b (pc := 15) (tgt := 40) hK dX8_both_15 (by decide) (fun c15 => absurd hw c15) (fun c15 => ?_)
          refine j_aload_n (pc := 18) hK dX8_both_18 rfl ?_
          refine J.mono (fun h w => YP.toN w) ?_
          refine j_callV (pc := 19) hK hQ (c_Ynext hn hn2 hE.2.1) cal_X8_next yn_isC q1174 dX8_both_19 rfl rfl (by omega) (nle rfl) (nle rfl) (nle rfl) (kr_v ?_) kx_v
          refine j_aload_n (pc := 22) hK dX8_both_22 rfl ?_
          refine j_callV (pc := 23) hK hQ (hb) cal_X8_not yp_isC q1201 dX8_both_23 rfl rfl (by omega) (nle rfl) (nle rfl) (nle rfl) (kr_i fun r23 => ?_) kx_i
          refine J.pre fun e23 => ?_
          subst e23
          refine j_if_ne_b (pc := 26) (tgt := 31) hK dX8_both_26 (by decide) (fun c26 => ?_) (fun c26 => absurd trivial c26)
          refine j_aload_n (pc := 31) hK dX8_both_31 rfl ?_
          refine j_bipush (pc := 32) (v := (-12)) hK dX8_both_32 (by decide) ?_
          refine j_callV (pc := 34) hK hQ (c_Yput _ h17 htx (by rw [List.length_append]; omega)) cal_X8_put yp_isC q1206 dX8_both_34 rfl rfl (by omega) (nle rfl) (nle rfl) (nle rfl) (kr_v ?_) kx_v
          refine j_goto (pc := 37) (tgt := 9) hK dX8_both_37 (by decide) ?_
          refine ihj (by omega) u (c1 ++ c ++ [(-12)]) y' hl1 (by simp; omega) e2 ?_
          rw [← hz, ← e3 c1, List.append_assoc]
      · rw [if_neg hw] at hy
        cases hy
        refine j_aload_n (pc := 9) hK dX8_both_9 rfl ?_
        refine j_ldcs (pc := 10) hK q1236 hev212 dX8_both_10 ?_
        refine j_callV (pc := 12) hK hQ (c_Yis hS212 (by decide) hn2 hq) cal_X8_is yp_isC q1189 dX8_both_12 rfl rfl (by omega) (nle rfl) (nle rfl) (nle rfl) (kr_i fun r12 => ?_) kx_i
        refine J.pre fun e12 => ?_
        subst e12
        refine j_if_eq_b (pc := 15) (tgt := 40) hK dX8_both_15 (by decide) (fun c15 => ?_) (fun c15 => absurd c15 hw)
        refine j_iconst (pc := 40) (v := 1) hK dX8_both_40 (by decide) ?_
        exact j_bret (pc := 41) hK hQ (nle rfl) (nle rfl) dX8_both_41 (fun h w => ⟨Or.inr rfl, by rw [← hz]; exact ⟨_, rfl, rfl, by show YP Γ L f g T n B (c1 ++ []) o q h; rw [List.append_nil]; exact w⟩⟩)
  rcases sq_x hx with ⟨q, e1, rfl⟩ | ⟨q, c, y, e1, e2, e3⟩
  · have hb : Ct Γ A yX8_not wX8_not (7 * (5 - o) + 10) 0 0 [.ref (L 40)] (YP Γ L f g T n B c0 o p) (RI fun r h => r = b2i False ∧ YB Γ L f g T n B q h) := IH m (Nat.le_refl _) _ _ _ _ hp hc0 ho e1
    refine j_aload_n (pc := 0) hK dX8_both_0 rfl ?_
    refine j_callV (pc := 1) hK hQ (hb) cal_X8_not yp_isC q1201 dX8_both_1 rfl rfl (by omega) (nle rfl) (nle rfl) (nle rfl) (kr_i fun r1 => ?_) kx_i
    refine J.pre fun e1 => ?_
    subst e1
    refine j_if_ne_b (pc := 4) (tgt := 9) hK dX8_both_4 (by decide) (fun c4 => absurd c4 (fun z => z)) (fun c4 => ?_)
    refine j_iconst (pc := 7) (v := 0) hK dX8_both_7 (by decide) ?_
    exact j_bret (pc := 8) hK hQ (nle rfl) (nle rfl) dX8_both_8 (fun h w => ⟨Or.inl rfl, ⟨_, rfl, rfl, w⟩⟩)
  · have hl := (pr_len _ _ _ _ _ hp e1)
    have hl1 := hl.2.1
    have hl2 := hl.2.2 c rfl
    simp only at hl1 hl2
    have hb : Ct Γ A yX8_not wX8_not (7 * (5 - o) + 10) 0 0 [.ref (L 40)] (YP Γ L f g T n B c0 o p) (RI fun r h => r = b2i True ∧ YP Γ L f g T n B (c0 ++ c) o q h) := IH m (Nat.le_refl _) _ _ _ _ hp hc0 ho e1
    refine j_aload_n (pc := 0) hK dX8_both_0 rfl ?_
    refine j_callV (pc := 1) hK hQ (hb) cal_X8_not yp_isC q1201 dX8_both_1 rfl rfl (by omega) (nle rfl) (nle rfl) (nle rfl) (kr_i fun r1 => ?_) kx_i
    refine J.pre fun e1 => ?_
    subst e1
    refine j_if_ne_b (pc := 4) (tgt := 9) hK dX8_both_4 (by decide) (fun c4 => ?_) (fun c4 => absurd trivial c4)
    exact loop m (Nat.le_refl _) q (c0 ++ c) y hl1 (by rw [List.length_append]; omega) e2 (e3 c0)
theorem s_Yterm (hn : f 15 = nI n) (hn2 : n ≤ 160) (h17 : f 17 = nI tx) (htx : tx < 6) (IH : ∀ j, j ≤ m → YCo Γ A L f g T n B j) : YCt Γ A L f g T n B (m + 1) := by
  intro p o c0 x hp hc0 ho hx
  rw [pr_7] at hx
  refine Ct.of (cc := cX8_term) (nL := 1) (ret := (some .boolean)) (ls := [some (.ref (L 40))]) rfl rfl rfl (nle rfl) ?_
  intro K hK hQ
  skip
  have loop : ∀ (j : Nat), j ≤ m → ∀ (q : Nat) (c1 : List Int32) (y : Nat × Option (List Int32)), q ≤ n → c1.length ≤ q → pr (tp g) n j 8 q o = some y → ext c1 y = ext c0 x → J Γ A K 9 [some (.ref (L 40))] [] (YP Γ L f g T n B c1 o q) 0 0 := by
    intro j
    induction j with
    | zero => intro _ q c1 y _ _ h; cases h
    | succ j ihj =>
      intro hj q c1 y hq hc1 hy hz
      rw [pr_8] at hy
      have hE := en_le (t := tp g) hq
      by_cases hw : isS (tp g) n q 42
      · rw [if_pos hw] at hy
        have hgt := en_gt hq (isS_0 hw)
        rcases sq_x hy with ⟨u, e1, rfl⟩ | ⟨u, d, y', e1, e2, e3⟩
        · have hb : Ct Γ A yX8_one wX8_one (7 * (5 - o) + 7) 0 0 [.ref (L 40)] (YP Γ L f g T n B c1 o (enP (tp g) n q)) (RI fun r h => r = b2i False ∧ YB Γ L f g T n B u h) := IH j (by omega) _ _ _ _ hE.2.1 (by omega) ho (ap_y e1)
          refine j_aload_n (pc := 9) hK dX8_term_9 rfl ?_
          refine j_bipush (pc := 10) (v := 42) hK dX8_term_10 (by decide) ?_
          refine j_callV (pc := 12) hK hQ (c_Yis2 _) cal_X8_is_2 yp_isC q1232 dX8_term_12 rfl rfl (by omega) (nle rfl) (nle rfl) (nle rfl) (kr_i fun r12 => ?_) kx_i
          refine J.pre fun e12 => ?_
          subst e12
          refine j_if_eq_b (pc := 15) (tgt := 40) hK dX8_term_15 (by decide) (fun c15 => absurd hw c15) (fun c15 => ?_)
          refine j_aload_n (pc := 18) hK dX8_term_18 rfl ?_
          refine J.mono (fun h w => YP.toN w) ?_
          refine j_callV (pc := 19) hK hQ (c_Ynext hn hn2 hE.2.1) cal_X8_next yn_isC q1174 dX8_term_19 rfl rfl (by omega) (nle rfl) (nle rfl) (nle rfl) (kr_v ?_) kx_v
          refine j_aload_n (pc := 22) hK dX8_term_22 rfl ?_
          refine j_callV (pc := 23) hK hQ (hb) cal_X8_one yp_isC q1218 dX8_term_23 rfl rfl (by omega) (nle rfl) (nle rfl) (nle rfl) (kr_i fun r23 => ?_) kx_i
          refine J.pre fun e23 => ?_
          subst e23
          refine j_if_ne_b (pc := 26) (tgt := 31) hK dX8_term_26 (by decide) (fun c26 => absurd c26 (fun z => z)) (fun c26 => ?_)
          refine j_iconst (pc := 29) (v := 0) hK dX8_term_29 (by decide) ?_
          exact j_bret (pc := 30) hK hQ (nle rfl) (nle rfl) dX8_term_30 (fun h w => ⟨Or.inl rfl, by rw [← hz]; exact ⟨_, rfl, rfl, w⟩⟩)
        · obtain ⟨c, e4, rfl⟩ := ap_x e1
          have hl := (pr_len _ _ _ _ _ hE.2.1 e4)
          have hl1 := hl.2.1
          have hl2 := hl.2.2 c rfl
          simp only at hl1 hl2
          have hb : Ct Γ A yX8_one wX8_one (7 * (5 - o) + 7) 0 0 [.ref (L 40)] (YP Γ L f g T n B c1 o (enP (tp g) n q)) (RI fun r h => r = b2i True ∧ YP Γ L f g T n B (c1 ++ c) o u h) := IH j (by omega) _ _ _ _ hE.2.1 (by omega) ho e4
          refine j_aload_n (pc := 9) hK dX8_term_9 rfl ?_
          refine j_bipush (pc := 10) (v := 42) hK dX8_term_10 (by decide) ?_
          refine j_callV (pc := 12) hK hQ (c_Yis2 _) cal_X8_is_2 yp_isC q1232 dX8_term_12 rfl rfl (by omega) (nle rfl) (nle rfl) (nle rfl) (kr_i fun r12 => ?_) kx_i
          refine J.pre fun e12 => ?_
          subst e12
          refine j_if_eq_b (pc := 15) (tgt := 40) hK dX8_term_15 (by decide) (fun c15 => absurd hw c15) (fun c15 => ?_)
          refine j_aload_n (pc := 18) hK dX8_term_18 rfl ?_
          refine J.mono (fun h w => YP.toN w) ?_
          refine j_callV (pc := 19) hK hQ (c_Ynext hn hn2 hE.2.1) cal_X8_next yn_isC q1174 dX8_term_19 rfl rfl (by omega) (nle rfl) (nle rfl) (nle rfl) (kr_v ?_) kx_v
          refine j_aload_n (pc := 22) hK dX8_term_22 rfl ?_
          refine j_callV (pc := 23) hK hQ (hb) cal_X8_one yp_isC q1218 dX8_term_23 rfl rfl (by omega) (nle rfl) (nle rfl) (nle rfl) (kr_i fun r23 => ?_) kx_i
          refine J.pre fun e23 => ?_
          subst e23
          refine j_if_ne_b (pc := 26) (tgt := 31) hK dX8_term_26 (by decide) (fun c26 => ?_) (fun c26 => absurd trivial c26)
          refine j_aload_n (pc := 31) hK dX8_term_31 rfl ?_
          refine j_bipush (pc := 32) (v := (-18)) hK dX8_term_32 (by decide) ?_
          refine j_callV (pc := 34) hK hQ (c_Yput _ h17 htx (by rw [List.length_append]; omega)) cal_X8_put yp_isC q1206 dX8_term_34 rfl rfl (by omega) (nle rfl) (nle rfl) (nle rfl) (kr_v ?_) kx_v
          refine j_goto (pc := 37) (tgt := 9) hK dX8_term_37 (by decide) ?_
          refine ihj (by omega) u (c1 ++ c ++ [(-18)]) y' hl1 (by simp; omega) e2 ?_
          rw [← hz, ← e3 c1, List.append_assoc]
      · rw [if_neg hw] at hy
        cases hy
        refine j_aload_n (pc := 9) hK dX8_term_9 rfl ?_
        refine j_bipush (pc := 10) (v := 42) hK dX8_term_10 (by decide) ?_
        refine j_callV (pc := 12) hK hQ (c_Yis2 _) cal_X8_is_2 yp_isC q1232 dX8_term_12 rfl rfl (by omega) (nle rfl) (nle rfl) (nle rfl) (kr_i fun r12 => ?_) kx_i
        refine J.pre fun e12 => ?_
        subst e12
        refine j_if_eq_b (pc := 15) (tgt := 40) hK dX8_term_15 (by decide) (fun c15 => ?_) (fun c15 => absurd c15 hw)
        refine j_iconst (pc := 40) (v := 1) hK dX8_term_40 (by decide) ?_
        exact j_bret (pc := 41) hK hQ (nle rfl) (nle rfl) dX8_term_41 (fun h w => ⟨Or.inr rfl, by rw [← hz]; exact ⟨_, rfl, rfl, by show YP Γ L f g T n B (c1 ++ []) o q h; rw [List.append_nil]; exact w⟩⟩)
  rcases sq_x hx with ⟨q, e1, rfl⟩ | ⟨q, c, y, e1, e2, e3⟩
  · have hb : Ct Γ A yX8_one wX8_one (7 * (5 - o) + 7) 0 0 [.ref (L 40)] (YP Γ L f g T n B c0 o p) (RI fun r h => r = b2i False ∧ YB Γ L f g T n B q h) := IH m (Nat.le_refl _) _ _ _ _ hp hc0 ho e1
    refine j_aload_n (pc := 0) hK dX8_term_0 rfl ?_
    refine j_callV (pc := 1) hK hQ (hb) cal_X8_one yp_isC q1218 dX8_term_1 rfl rfl (by omega) (nle rfl) (nle rfl) (nle rfl) (kr_i fun r1 => ?_) kx_i
    refine J.pre fun e1 => ?_
    subst e1
    refine j_if_ne_b (pc := 4) (tgt := 9) hK dX8_term_4 (by decide) (fun c4 => absurd c4 (fun z => z)) (fun c4 => ?_)
    refine j_iconst (pc := 7) (v := 0) hK dX8_term_7 (by decide) ?_
    exact j_bret (pc := 8) hK hQ (nle rfl) (nle rfl) dX8_term_8 (fun h w => ⟨Or.inl rfl, ⟨_, rfl, rfl, w⟩⟩)
  · have hl := (pr_len _ _ _ _ _ hp e1)
    have hl1 := hl.2.1
    have hl2 := hl.2.2 c rfl
    simp only at hl1 hl2
    have hb : Ct Γ A yX8_one wX8_one (7 * (5 - o) + 7) 0 0 [.ref (L 40)] (YP Γ L f g T n B c0 o p) (RI fun r h => r = b2i True ∧ YP Γ L f g T n B (c0 ++ c) o q h) := IH m (Nat.le_refl _) _ _ _ _ hp hc0 ho e1
    refine j_aload_n (pc := 0) hK dX8_term_0 rfl ?_
    refine j_callV (pc := 1) hK hQ (hb) cal_X8_one yp_isC q1218 dX8_term_1 rfl rfl (by omega) (nle rfl) (nle rfl) (nle rfl) (kr_i fun r1 => ?_) kx_i
    refine J.pre fun e1 => ?_
    subst e1
    refine j_if_ne_b (pc := 4) (tgt := 9) hK dX8_term_4 (by decide) (fun c4 => ?_) (fun c4 => absurd trivial c4)
    exact loop m (Nat.le_refl _) q (c0 ++ c) y hl1 (by rw [List.length_append]; omega) e2 (e3 c0)
end Y15
