/-! the numbers that both sides keep to -/
set_option maxRecDepth 100000
theorem bmod_small {x : Int} (h1 : -2147483648 ≤ x) (h2 : x < 2147483648) : x.bmod 4294967296 = x := by
  rw [Int.bmod_eq_of_le_mul_two] <;> omega
theorem nI_sub_toInt {a b : Nat} (ha : a < 2 ^ 30) (hb : b < 2 ^ 30) : (nI a - nI b).toInt = (a : Int) - b := by
  rw [Int32.toInt_sub, nI_toInt (by omega), nI_toInt (by omega)]
  exact bmod_small (by omega) (by omega)
theorem nI_add_toInt {a b : Nat} (ha : a < 2 ^ 30) (hb : b < 2 ^ 30) : (nI a + nI b).toInt = (a : Int) + b := by
  rw [Int32.toInt_add, nI_toInt (by omega), nI_toInt (by omega)]
  exact bmod_small (by omega) (by omega)
theorem nI_mul {a b : Nat} : nI a * nI b = nI (a * b) := by
  unfold nI
  rw [Int32.ofNat_mul]
theorem nI_div {a b : Nat} (ha : a < 2 ^ 31) (hb : b < 2 ^ 31) : nI a / nI b = nI (a / b) := by
  have hl : a / b ≤ a := Nat.div_le_self a b
  apply Int32.toInt_inj.mp
  rw [Int32.toInt_div, nI_toInt ha, nI_toInt hb, nI_toInt (by omega), ← Int.ofNat_tdiv]
  generalize a / b = q at *
  exact bmod_small (by omega) (by omega)
theorem nI_subN {a b : Nat} (h : b ≤ a) (ha : a < 2 ^ 30) : nI a - nI b = nI (a - b) := by
  apply Int32.toInt_inj.mp
  rw [nI_sub_toInt ha (by omega), nI_toInt (by omega)]
  omega
theorem mx_sub {w s : Nat} (hw : w < 2 ^ 30) (hs : s < 2 ^ 30) : maxI 0 (nI w - nI s) = nI (w - s) := by
  have e := nI_sub_toInt hw hs
  unfold maxI
  by_cases h : (0 : Int32) < nI w - nI s
  · rw [if_pos h]
    have h' := Int32.lt_iff_toInt_lt.mp h
    rw [e] at h'
    have : (0 : Int32).toInt = 0 := rfl
    exact nI_subN (by omega) hw
  · rw [if_neg h]
    have h' : ¬ (0 : Int32).toInt < (nI w - nI s).toInt := fun z => h (Int32.lt_iff_toInt_lt.mpr z)
    rw [e] at h'
    have : (0 : Int32).toInt = 0 := rfl
    have : w - s = 0 := by omega
    rw [this]
    rfl
theorem maxI_nn {x : Int32} (h : 0 ≤ x) : maxI 0 x = x := by
  unfold maxI
  by_cases z : 0 < x
  · rw [if_pos z]
  · rw [if_neg z]
    exact Int32.le_antisymm h (Int32.not_lt.mp z)
theorem clamp99 (v : Int32) : ∃ j, j ≤ 99 ∧ maxI 0 (minI 99 v) = nI j := by
  have h1 : 0 ≤ maxI 0 (minI 99 v) := by unfold maxI; split <;> grind
  have h2 : maxI 0 (minI 99 v) ≤ 99 := by unfold maxI minI; split <;> split <;> grind
  exact nI_of2 (M := 99) (n := 99) (by decide) (Int32.not_lt.mpr h1) h2
section XP
variable {f : Nat → Int32} {g : Nat → Int32 → Int32} {T : TX}
/-- all that both sides keep to, in numbers, boats and texts -/
def XV (f : Nat → Int32) (g : Nat → Int32 → Int32) (T : TX) : Prop := InvN f ∧ (∀ b, Bo f b → InvB g b) ∧ OkR f T
theorem plain_eq0 {b w : Int32} (hB : InvB g b) (h0 : 0 ≤ w) (h1 : w ≤ 99999) : ∃ n, n ≤ 700000 ∧ plainI f g T b w = nI n := by
  obtain ⟨w', hw, rfl⟩ := nI_of2 (M := 99999) (n := 99999) (by decide) (Int32.not_lt.mpr h0) h1
  obtain ⟨-, -, -, -, -, -, a4, b4, a5, b5, -⟩ := hB
  obtain ⟨x4, h4, e4⟩ := nI_of2 (M := 999) (n := 999) (by decide) (Int32.not_lt.mpr a4) b4
  obtain ⟨x5, h5, e5⟩ := nI_of2 (M := 240) (n := 240) (by decide) (Int32.not_lt.mpr (Int32.le_trans (by decide) a5)) b5
  obtain ⟨j, hj, ej⟩ := clamp99 (ruleI f g T 0 b (g 3 b) (nI w'))
  refine ⟨(w' - (x4 + x5) + 14) / 15 * j, ?_, ?_⟩
  · have : (w' - (x4 + x5) + 14) / 15 ≤ 6667 := by omega
    have := Nat.mul_le_mul this hj
    omega
  · unfold plainI
    rw [ej, e4, e5, ← sub3, nI_add, mx_sub (by omega) (by omega), show (14 : Int32) = nI 14 by decide, nI_add, show (15 : Int32) = nI 15 by decide, nI_div (by omega) (by omega), nI_mul]
theorem mx_m1 {s : Nat} (hs : s < 2 ^ 30) : maxI 0 (-1 - nI s) = 0 := by
  unfold maxI
  rw [if_neg]
  intro h
  have h' := Int32.lt_iff_toInt_lt.mp h
  have e0 : (0 : Int32).toInt = 0 := rfl
  have e1 : (-1 : Int32).toInt = -1 := rfl
  rw [Int32.toInt_sub, nI_toInt (by omega), e0, e1, bmod_small (by omega) (by omega)] at h'
  omega
theorem plain_eq {b w : Int32} (hB : InvB g b) (h0 : -1 ≤ w) (h1 : w ≤ 99999) : ∃ n, n ≤ 700000 ∧ plainI f g T b w = nI n := by
  by_cases hw : w = -1
  · subst hw
    obtain ⟨-, -, -, -, -, -, a4, b4, a5, b5, -⟩ := hB
    obtain ⟨x4, h4, e4⟩ := nI_of2 (M := 999) (n := 999) (by decide) (Int32.not_lt.mpr a4) b4
    obtain ⟨x5, h5, e5⟩ := nI_of2 (M := 240) (n := 240) (by decide) (Int32.not_lt.mpr (Int32.le_trans (by decide) a5)) b5
    refine ⟨0, by decide, ?_⟩
    unfold plainI
    rw [e4, e5, ← sub3, nI_add, mx_m1 (by omega), show ((0 : Int32) + 14) / 15 = 0 by decide, Int32.zero_mul]
    rfl
  · exact plain_eq0 hB (by grind) h1
theorem owe_eq {b w : Int32} (hB : InvB g b) (h0 : -1 ≤ w) (h1 : w ≤ 99999) : maxI 0 (oweB (g 1 b).toNatClampNeg (g 2 b) (maxI 0 (w - (g 4 b + g 5 b))) (maxI 0 (minI 99 (ruleI f g T 0 b (g 3 b) w)))) = owesI f g T b w := by
  obtain ⟨n, hn, e⟩ := plain_eq (f := f) (T := T) hB h0 h1
  obtain ⟨m, hm, e2⟩ := nI_of2 (M := 9) (n := 9) (by decide) (Int32.not_lt.mpr hB.2.2.1) hB.2.2.2.1
  have e' : (maxI 0 (w - (g 4 b + g 5 b)) + 14) / 15 * maxI 0 (minI 99 (ruleI f g T 0 b (g 3 b) w)) = nI n := by
    rw [sub3, ← e]
    rfl
  obtain ⟨k, hk, e1⟩ := i6 hB.1 hB.2.1
  have nn : ∀ j, j < 2 ^ 31 → 0 ≤ nI j := fun j hj => Int32.not_lt.mp (nI_pos hj)
  have d2 : nI n / 2 = nI (n / 2) := by rw [show (2 : Int32) = nI 2 by decide, nI_div (by omega) (by omega)]
  unfold owesI
  rw [e, e1, e2, nI_clamp (by omega)]
  rcases n6 hk with rfl | rfl | rfl | rfl | rfl | rfl
  · show maxI 0 (_ / 15 * _) = _
    rw [e', maxI_nn (nn n (by omega))]
    simp [nI]
  · show maxI 0 (_ / 15 * _) = _
    rw [e', maxI_nn (nn n (by omega))]
    simp [nI]
  · show maxI 0 (_ / 15 * _ / 2) = _
    rw [e', d2, maxI_nn (nn _ (by omega))]
    simp [nI]
  · show maxI 0 0 = _
    simp [nI, maxI]
  · show maxI 0 (_ / 15 * _ / 2 + 2) = _
    rw [e', d2, show (2 : Int32) = nI 2 by decide, nI_add, maxI_nn (nn _ (by omega))]
    simp [nI]
  · show maxI 0 (if 0 < _ / 15 * _ then _ / 15 * _ + nI m else 0) = _
    rw [e']
    by_cases hz : (0 : Int32) < nI n
    · rw [if_pos hz, nI_add, maxI_nn (nn _ (by omega))]
      simp [nI] at hz ⊢
      try simp [hz]
    · rw [if_neg hz]
      simp [nI] at hz ⊢
      try simp [hz, maxI]
/-! how they are kept -/
theorem InvB.of {g' : Nat → Int32 → Int32} {b : Int32} (h : InvB g b) (h1 : g' 1 b = g 1 b) (h2 : 0 ≤ g' 2 b ∧ g' 2 b ≤ 9) (h3 : 0 ≤ g' 3 b ∧ g' 3 b ≤ 47) (h4 : 0 ≤ g' 4 b ∧ g' 4 b ≤ 999) (h5 : 5 ≤ g' 5 b ∧ g' 5 b ≤ 240) (h6 : 0 ≤ g' 6 b ∧ g' 6 b ≤ 2) (h7 : -1 ≤ g' 7 b ∧ g' 7 b ≤ 99999) : InvB g' b := by
  unfold InvB
  rw [h1]
  exact ⟨h.1, h.2.1, h2.1, h2.2, h3.1, h3.2, h4.1, h4.2, h5.1, h5.2, h6.1, h6.2, h7.1, h7.2⟩
theorem InvB.up {b b' v : Int32} {k : Nat} (h : InvB g b) (hk : (k = 2 ∧ 0 ≤ v ∧ v ≤ 9) ∨ (k = 3 ∧ 0 ≤ v ∧ v ≤ 47) ∨ (k = 4 ∧ 0 ≤ v ∧ v ≤ 999) ∨ (k = 5 ∧ 5 ≤ v ∧ v ≤ 240) ∨ (k = 6 ∧ 0 ≤ v ∧ v ≤ 2) ∨ (k = 7 ∧ -1 ≤ v ∧ v ≤ 99999)) : InvB (ug g k b' v) b := by
  have sm : ∀ j, j ≠ k → ug g k b' v j b = g j b := fun j hj => ug_k g b' v hj b
  have at_ : ug g k b' v k b = v ∨ ug g k b' v k b = g k b := by
    by_cases e : b = b'
    · subst e
      exact Or.inl (ug_s g k b v)
    · exact Or.inr (ug_i g k v e)
  have h0 := h
  obtain ⟨q1, q1', q2, q2', q3, q3', q4, q4', q5, q5', q6, q6', q7, q7'⟩ := h0
  rcases hk with ⟨rfl, w⟩ | ⟨rfl, w⟩ | ⟨rfl, w⟩ | ⟨rfl, w⟩ | ⟨rfl, w⟩ | ⟨rfl, w⟩
  · refine h.of (sm 1 (by decide)) ?_ (by rw [sm 3 (by decide)]; exact ⟨q3, q3'⟩) (by rw [sm 4 (by decide)]; exact ⟨q4, q4'⟩) (by rw [sm 5 (by decide)]; exact ⟨q5, q5'⟩) (by rw [sm 6 (by decide)]; exact ⟨q6, q6'⟩) (by rw [sm 7 (by decide)]; exact ⟨q7, q7'⟩)
    rcases at_ with e | e <;> rw [e]
    · exact w
    · exact ⟨q2, q2'⟩
  · refine h.of (sm 1 (by decide)) (by rw [sm 2 (by decide)]; exact ⟨q2, q2'⟩) ?_ (by rw [sm 4 (by decide)]; exact ⟨q4, q4'⟩) (by rw [sm 5 (by decide)]; exact ⟨q5, q5'⟩) (by rw [sm 6 (by decide)]; exact ⟨q6, q6'⟩) (by rw [sm 7 (by decide)]; exact ⟨q7, q7'⟩)
    rcases at_ with e | e <;> rw [e]
    · exact w
    · exact ⟨q3, q3'⟩
  · refine h.of (sm 1 (by decide)) (by rw [sm 2 (by decide)]; exact ⟨q2, q2'⟩) (by rw [sm 3 (by decide)]; exact ⟨q3, q3'⟩) ?_ (by rw [sm 5 (by decide)]; exact ⟨q5, q5'⟩) (by rw [sm 6 (by decide)]; exact ⟨q6, q6'⟩) (by rw [sm 7 (by decide)]; exact ⟨q7, q7'⟩)
    rcases at_ with e | e <;> rw [e]
    · exact w
    · exact ⟨q4, q4'⟩
  · refine h.of (sm 1 (by decide)) (by rw [sm 2 (by decide)]; exact ⟨q2, q2'⟩) (by rw [sm 3 (by decide)]; exact ⟨q3, q3'⟩) (by rw [sm 4 (by decide)]; exact ⟨q4, q4'⟩) ?_ (by rw [sm 6 (by decide)]; exact ⟨q6, q6'⟩) (by rw [sm 7 (by decide)]; exact ⟨q7, q7'⟩)
    rcases at_ with e | e <;> rw [e]
    · exact w
    · exact ⟨q5, q5'⟩
  · refine h.of (sm 1 (by decide)) (by rw [sm 2 (by decide)]; exact ⟨q2, q2'⟩) (by rw [sm 3 (by decide)]; exact ⟨q3, q3'⟩) (by rw [sm 4 (by decide)]; exact ⟨q4, q4'⟩) (by rw [sm 5 (by decide)]; exact ⟨q5, q5'⟩) ?_ (by rw [sm 7 (by decide)]; exact ⟨q7, q7'⟩)
    rcases at_ with e | e <;> rw [e]
    · exact w
    · exact ⟨q6, q6'⟩
  · refine h.of (sm 1 (by decide)) (by rw [sm 2 (by decide)]; exact ⟨q2, q2'⟩) (by rw [sm 3 (by decide)]; exact ⟨q3, q3'⟩) (by rw [sm 4 (by decide)]; exact ⟨q4, q4'⟩) (by rw [sm 5 (by decide)]; exact ⟨q5, q5'⟩) (by rw [sm 6 (by decide)]; exact ⟨q6, q6'⟩) ?_
    rcases at_ with e | e <;> rw [e]
    · exact w
    · exact ⟨q7, q7'⟩
theorem XV.ug {b' v : Int32} {k : Nat} (h : XV f g T) (hk : (k = 2 ∧ 0 ≤ v ∧ v ≤ 9) ∨ (k = 3 ∧ 0 ≤ v ∧ v ≤ 47) ∨ (k = 4 ∧ 0 ≤ v ∧ v ≤ 999) ∨ (k = 5 ∧ 5 ≤ v ∧ v ≤ 240) ∨ (k = 6 ∧ 0 ≤ v ∧ v ≤ 2) ∨ (k = 7 ∧ -1 ≤ v ∧ v ≤ 99999)) : XV f (ug g k b' v) T := ⟨h.1, fun b hb => (h.2.1 b hb).up hk, h.2.2⟩
theorem upd_o {k j : Nat} {v : Int32} (h : j ≠ k) : upd f k v j = f j := if_neg h
theorem upd_s {k : Nat} {v : Int32} : upd f k v k = v := if_pos rfl
theorem XV.upd {v : Int32} {k : Nat} (h : XV f g T) (hk : (k = 8 ∧ 0 ≤ v ∧ v ≤ 47) ∨ (k = 9 ∧ 0 ≤ v ∧ v ≤ 9) ∨ (k = 10 ∧ 0 ≤ v ∧ v ≤ 9999) ∨ (k = 11 ∧ 1 ≤ v ∧ v ≤ 6) ∨ (k = 12 ∧ 1 ≤ v ∧ v ≤ 9) ∨ (k = 13 ∧ 0 ≤ v ∧ v ≤ 20) ∨ k = 14) : XV (upd f k v) g T := by
  have h0 : k ≠ 0 ∧ k ≠ 15 ∧ k ≠ 17 ∧ k ≠ 18 := by omega
  refine ⟨?_, fun b hb => h.2.1 b ⟨hb.1, by have := hb.2; rwa [upd_o (fun z => h0.1 z.symm)] at this⟩, h.2.2.upd _ h0.2.2.1 h0.2.2.2⟩
  have hN := h.1
  obtain ⟨a0, b0, a8, b8, a9, b9, a10, b10, a11, b11, a12, b12, a13, b13, a15, b15, a17, b17, a18, b18⟩ := hN
  unfold InvN
  rw [upd_o (j := 0) (fun z => h0.1 z.symm), upd_o (j := 15) (fun z => h0.2.1 z.symm), upd_o (j := 17) (fun z => h0.2.2.1 z.symm), upd_o (j := 18) (fun z => h0.2.2.2 z.symm)]
  rcases hk with ⟨rfl, w1, w2⟩ | ⟨rfl, w1, w2⟩ | ⟨rfl, w1, w2⟩ | ⟨rfl, w1, w2⟩ | ⟨rfl, w1, w2⟩ | ⟨rfl, w1, w2⟩ | rfl
  · exact ⟨a0, b0, w1, w2, a9, b9, a10, b10, a11, b11, a12, b12, a13, b13, a15, b15, a17, b17, a18, b18⟩
  · exact ⟨a0, b0, a8, b8, w1, w2, a10, b10, a11, b11, a12, b12, a13, b13, a15, b15, a17, b17, a18, b18⟩
  · exact ⟨a0, b0, a8, b8, a9, b9, w1, w2, a11, b11, a12, b12, a13, b13, a15, b15, a17, b17, a18, b18⟩
  · exact ⟨a0, b0, a8, b8, a9, b9, a10, b10, w1, w2, a12, b12, a13, b13, a15, b15, a17, b17, a18, b18⟩
  · exact ⟨a0, b0, a8, b8, a9, b9, a10, b10, a11, b11, w1, w2, a13, b13, a15, b15, a17, b17, a18, b18⟩
  · exact ⟨a0, b0, a8, b8, a9, b9, a10, b10, a11, b11, a12, b12, w1, w2, a15, b15, a17, b17, a18, b18⟩
  · exact ⟨a0, b0, a8, b8, a9, b9, a10, b10, a11, b11, a12, b12, a13, b13, a15, b15, a17, b17, a18, b18⟩
theorem XV.come {b a : Int32} (h : XV f g T) (h0 : -1 ≤ a) (h1 : a ≤ 99999) : XV (comeF f g T b a) (comeG g b a) T := by
  unfold comeF comeG
  refine XV.ug (XV.ug (XV.upd (XV.upd h (by simp)) ?_) (by right; right; right; right; left; decide)) (by right; right; right; right; right; exact ⟨rfl, h0, h1⟩)
  refine Or.inr (Or.inr (Or.inr (Or.inr (Or.inr (Or.inl ⟨rfl, ?_⟩)))))
  obtain ⟨n, hn, e⟩ := nI_of2 (M := 20) (n := 20) (by decide) (Int32.not_lt.mpr h.1.2.2.2.2.2.2.2.2.2.2.2.2.1) h.1.2.2.2.2.2.2.2.2.2.2.2.2.2.1
  rw [e, show (1 : Int32) = nI 1 by decide, mx_sub (by omega) (by omega)]
  exact ⟨Int32.not_lt.mp (nI_pos (by omega)), nI_le (b := 20) (by omega) (by decide)⟩
theorem XV.nb (h : XV f g T) : ∃ nb, nb ≤ 7 ∧ f 0 = nI nb := nI_of2 (M := 7) (n := 7) (by decide) (Int32.not_lt.mpr h.1.1) h.1.2.1
theorem bo_nI {i nb : Nat} (e : f 0 = nI nb) (hi : i < nb) (hn : nb ≤ 7) : Bo f (nI i) := ⟨Int32.not_lt.mp (nI_pos (by omega)), by rw [e]; exact nI_lt hi (by omega)⟩
theorem bo_of {b : Int32} (h : 0 ≤ b ∧ b ≤ f 0 - 1) (hN : InvN f) : Bo f b := by
  refine ⟨h.1, ?_⟩
  obtain ⟨nb, hn, e⟩ := nI_of2 (M := 7) (n := 7) (by decide) (Int32.not_lt.mpr hN.1) hN.2.1
  have h2 := h.2
  have h1 := h.1
  rw [e] at h2 ⊢
  obtain ⟨j, hj, rfl⟩ := nI_of (Int32.not_lt.mpr h1)
  have := Int32.le_iff_toInt_le.mp h2
  rw [show (1 : Int32) = nI 1 by decide, nI_toInt hj, nI_sub_toInt (by omega) (by omega)] at this
  exact nI_lt (by omega) (by omega)
theorem need_bd {b : Int32} (hN : InvN f) (hB : InvB g b) : 0 ≤ needI f g b ∧ needI f g b ≤ 600 := by
  obtain ⟨k, hk, e1⟩ := i6 hB.1 hB.2.1
  obtain ⟨n, hn, e2⟩ := i10 hB.2.2.1 hB.2.2.2.1
  obtain ⟨w, hw, e3⟩ := i10 hN.2.2.2.2.1 hN.2.2.2.2.2.1
  obtain ⟨c, hc, e4⟩ := nI_of2 (M := 47) (n := 47) (by decide) (Int32.not_lt.mpr hB.2.2.2.2.1) hB.2.2.2.2.2.1
  unfold needI
  rw [← rowB_eq hN.w hB, e1, e2, e3, e4, nI_clamp (by omega)]
  have a1 : ∀ c, c < 48 → ∃ j, j < 13 ∧ farI (nI c) 0 = nI j := by decide +kernel
  have a2 : ∀ k, k < 6 → ∀ n, n < 10 → ∀ w, w < 10 → ∃ j, j < 20 ∧ maxI 1 (rowB k (nI n) (nI w)) = nI j := by decide +kernel
  obtain ⟨j1, h1, q1⟩ := a1 c (by omega)
  obtain ⟨j2, h2, q2⟩ := a2 k hk n hn w hw
  rw [q1, q2, nI_mul]
  have : j1 * j2 ≤ 12 * 19 := Nat.mul_le_mul (by omega) (by omega)
  exact ⟨Int32.not_lt.mp (nI_pos (by omega)), nI_le (b := 600) (by omega) (by decide)⟩
end XP
