/-! the code that is read is well made -/
set_option maxRecDepth 100000
section PD
variable {t : Nat → Int32} {n : Nat}
theorem dps_app : ∀ (a b : List Int32) (k : Nat), dps (a ++ b) k = (dps a k).bind (dps b) := by
  intro a
  induction a with
  | nil => intro b k; rfl
  | cons c a ih =>
    intro b k
    show (dp1 c k).bind (dps (a ++ b)) = ((dp1 c k).bind (dps a)).bind (dps b)
    cases dp1 c k with
    | none => rfl
    | some j => exact ih b j
theorem runD_dg : ∀ (r p i : Nat), p ≤ i → i < runD t r p → isDg (t i) := by
  intro r
  induction r with
  | zero => intro p i h1 h2; unfold runD at h2; omega
  | succ r ih =>
    intro p i h1 h2
    unfold runD at h2
    by_cases hd : isDg (t p)
    · rw [if_pos hd] at h2
      by_cases e : i = p
      · rw [e]; exact hd
      · exact ih (p + 1) i (by omega) h2
    · rw [if_neg hd] at h2; omega
theorem dg_nI {c : Int32} (h : isDg c) : ∃ d : Nat, d ≤ 9 ∧ c = nI (d + 48) := by
  obtain ⟨x, hx, rfl⟩ := nI_of (x := c) (by have := h.1; grind)
  have h1 := h.1
  have h2 := h.2
  rw [show (48 : Int32) = nI 48 by decide] at h1
  rw [show (57 : Int32) = nI 57 by decide] at h2
  have a1 : 48 ≤ x := (nI_leI (by decide) hx).mp h1
  have a2 : x ≤ 57 := (nI_leI hx (by decide)).mp h2
  exact ⟨x - 48, by omega, by rw [show x - 48 + 48 = x by omega]⟩
theorem dgV_nI {fr k : Nat} (h : ∀ i, i < k → isDg (t (fr + i))) : ∃ v : Nat, v < 10 ^ (if k < 4 then k else 4) ∧ dgV t fr k = nI v := by
  induction k with
  | zero => exact ⟨0, by decide, rfl⟩
  | succ k ih =>
    obtain ⟨v, h1, h2⟩ := ih (fun i hi => h i (by omega))
    unfold dgV
    by_cases h4 : k < 4
    · rw [if_pos h4] at h1 ⊢
      obtain ⟨d, hd, e⟩ := dg_nI (h k (by omega))
      refine ⟨10 * v + d, ?_, ?_⟩
      · have : (if k + 1 < 4 then k + 1 else 4) = k + 1 := by split <;> omega
        rw [this, Nat.pow_succ]
        omega
      · rw [h2, e, show (10 : Int32) = nI 10 by decide, show (48 : Int32) = nI 48 by decide, pk_mul, nI_add, pk_sub (by omega)]
        congr 1
    · rw [if_neg h4] at h1 ⊢
      refine ⟨v, ?_, h2⟩
      rw [if_neg (by omega)]
      exact h1
theorem va_nn {p : Nat} (hp : p ≤ n) (h : soP t n p = 1) : ∃ v : Nat, v ≤ 9999 ∧ vaP t n p = nI v := by
  have hd : ¬ frP t n p = n ∧ isDg (t (frP t n p)) := by
    unfold soP at h
    by_cases e : frP t n p = n
    · rw [if_pos e] at h; exact absurd h (by decide)
    · rw [if_neg e] at h
      refine ⟨e, ?_⟩
      by_cases hd : isDg (t (frP t n p))
      · exact hd
      · rw [if_neg hd] at h
        split at h
        · exact absurd h (by decide)
        · split at h
          · exact absurd h (by decide)
          · exact absurd h (by decide)
  have he : enP t n p = runD t (n - frP t n p) (frP t n p) := by
    unfold enP
    rw [if_neg hd.1, if_pos hd.2]
  obtain ⟨v, h1, h2⟩ := dgV_nI (t := t) (fr := frP t n p) (k := enP t n p - frP t n p) (fun i hi => runD_dg (n - frP t n p) (frP t n p) _ (by omega) (by rw [he] at hi; omega))
  refine ⟨v, ?_, by unfold vaP; rw [if_pos hd.2]; exact h2⟩
  have : (10 : Nat) ^ (if enP t n p - frP t n p < 4 then enP t n p - frP t n p else 4) ≤ 10 ^ 4 := Nat.pow_le_pow_right (by decide) (by split <;> omega)
  omega
def eL (lv : Nat) : Nat := if lv = 1 ∨ lv = 3 ∨ lv = 6 ∨ lv = 8 then 1 else 0
def Dp (e : Nat) (x : Nat × Option (List Int32)) : Prop := ∀ c, x.2 = some c → ∀ k, dps c (k + e) = some (k + 1)
theorem Dp.sq {r : PO} {k : Nat → PO} {e : Nat} {x : Nat × Option (List Int32)} (h1 : ∀ y, r = some y → Dp e y) (h2 : ∀ q c y, r = some (q, some c) → k q = some y → Dp 1 y) (h : sq r k = some x) : Dp e x := by
  rcases sq_c h with ⟨q, e1, rfl⟩ | ⟨q, c, e1, ⟨u, e2, rfl⟩ | ⟨u, c', e2, rfl⟩⟩
  · exact h1 _ e1
  · exact fun c h => by cases h
  · intro c0 h j
    cases h
    rw [dps_app, h1 _ e1 c rfl j]
    exact h2 q c _ e1 e2 c' rfl j
theorem Dp.ap {r : PO} {e : Nat} {v : Int32} {x : Nat × Option (List Int32)} (h1 : ∀ y, r = some y → Dp 0 y) (hv : ∀ k, dp1 v (k + e + 1) = some (k + 1)) (h : ap v r = some x) : Dp e x := by
  rcases ap_c h with ⟨q, e1, rfl⟩ | ⟨q, c, e1, rfl⟩
  · exact fun c h => by cases h
  · intro c0 h j
    cases h
    rw [dps_app]
    have := h1 _ e1 c rfl (j + e)
    rw [Nat.add_zero] at this
    rw [this]
    show (dp1 v (j + e + 1)).bind (dps []) = _
    rw [hv j]
    rfl
theorem Dp.nil {q : Nat} : Dp 1 (q, some []) := fun c h k => by cases h; rfl
theorem Dp.bad {q e : Nat} : Dp e (q, none) := fun c h => by cases h
theorem d_two {v : Int32} (h : v = -11 ∨ v = -12 ∨ v = -14 ∨ v = -15 ∨ v = -16 ∨ v = -17 ∨ v = -18) (k : Nat) : dp1 v (k + 1 + 1) = some (k + 1) := by
  rcases h with rfl | rfl | rfl | rfl | rfl | rfl | rfl <;> rfl
theorem d_one {v : Int32} (h : v = -13 ∨ v = -19) (k : Nat) : dp1 v (k + 0 + 1) = some (k + 1) := by
  rcases h with rfl | rfl <;> rfl
theorem d_zero {v : Int32} {q : Nat} (h : -7 < v) : Dp 0 (q, some [v]) := fun c e k => by
  cases e
  show (dp1 v k).bind (dps []) = _
  unfold dp1
  rw [if_pos h]
  rfl
theorem pr_dps : ∀ (m lv p o : Nat) (x : Nat × Option (List Int32)), p ≤ n → pr t n m lv p o = some x → Dp (eL lv) x := by
  intro m
  induction m with
  | zero => intro lv p o x _ h; cases h
  | succ m ih =>
    intro lv p o x hp h
    have he := en_le (t := t) hp
    have bq : ∀ {lv' p' q c o'}, p' ≤ n → pr t n m lv' p' o' = some (q, some c) → q ≤ n := fun h1 h2 => (pr_len _ _ _ _ _ h1 h2).2.1
    have bq2 : ∀ {lv' p' q c o' v}, p' ≤ n → ap v (pr t n m lv' p' o') = some (q, some c) → q ≤ n := fun h1 h2 => by
      rcases ap_c h2 with ⟨q', e1, e2⟩ | ⟨q', c', e1, e2⟩
      · cases e2
      · cases e2; exact bq h1 e1
    match lv, h with
    | 0, h => rw [pr_0] at h; exact Dp.sq (fun y => ih 2 _ _ _ hp) (fun q c y hq => ih 1 _ _ _ (bq hp hq)) h
    | 1, h =>
      rw [pr_1] at h
      by_cases hw : isW t n p wOr
      · rw [if_pos hw] at h
        exact Dp.sq (fun y => Dp.ap (fun y => ih 2 _ _ _ he.2.1) (d_two (Or.inl rfl))) (fun q c y hq => ih 1 _ _ _ (bq2 he.2.1 hq)) h
      · rw [if_neg hw] at h; cases h; exact Dp.nil
    | 2, h => rw [pr_2] at h; exact Dp.sq (fun y => ih 4 _ _ _ hp) (fun q c y hq => ih 3 _ _ _ (bq hp hq)) h
    | 3, h =>
      rw [pr_3] at h
      by_cases hw : isW t n p wAnd
      · rw [if_pos hw] at h
        exact Dp.sq (fun y => Dp.ap (fun y => ih 4 _ _ _ he.2.1) (d_two (Or.inr (Or.inl rfl)))) (fun q c y hq => ih 3 _ _ _ (bq2 he.2.1 hq)) h
      · rw [if_neg hw] at h; cases h; exact Dp.nil
    | 4, h =>
      rw [pr_4] at h
      by_cases hw : isW t n p wNot
      · rw [if_pos hw] at h
        by_cases h5 : o = 5
        · rw [if_pos h5] at h; cases h; exact Dp.bad
        · rw [if_neg h5] at h; exact Dp.ap (fun y => ih 4 _ _ _ he.2.1) (d_one (Or.inl rfl)) h
      · rw [if_neg hw] at h
        refine Dp.sq (fun y => ih 5 _ _ _ hp) (fun q c y hq hk => ?_) h
        have hqn := bq hp hq
        by_cases hs : isS t n q 60 ∨ isS t n q 61
        · rw [if_pos hs] at hk
          exact Dp.ap (fun y => ih 5 _ _ _ (en_le (t := t) hqn).2.1) (d_two (by split <;> simp)) hk
        · rw [if_neg hs] at hk; cases hk; exact Dp.nil
    | 5, h => rw [pr_5] at h; exact Dp.sq (fun y => ih 7 _ _ _ hp) (fun q c y hq => ih 6 _ _ _ (bq hp hq)) h
    | 6, h =>
      rw [pr_6] at h
      by_cases hs : isS t n p 43 ∨ isS t n p 45
      · rw [if_pos hs] at h
        exact Dp.sq (fun y => Dp.ap (fun y => ih 7 _ _ _ he.2.1) (d_two (by split <;> simp))) (fun q c y hq => ih 6 _ _ _ (bq2 he.2.1 hq)) h
      · rw [if_neg hs] at h; cases h; exact Dp.nil
    | 7, h => rw [pr_7] at h; exact Dp.sq (fun y => ih 9 _ _ _ hp) (fun q c y hq => ih 8 _ _ _ (bq hp hq)) h
    | 8, h =>
      rw [pr_8] at h
      by_cases hs : isS t n p 42
      · rw [if_pos hs] at h
        exact Dp.sq (fun y => Dp.ap (fun y => ih 9 _ _ _ he.2.1) (d_two (by simp))) (fun q c y hq => ih 8 _ _ _ (bq2 he.2.1 hq)) h
      · rw [if_neg hs] at h; cases h; exact Dp.nil
    | k + 9, h =>
      have e0 : eL (k + 9) = 0 := by unfold eL; rw [if_neg (by omega)]
      rw [e0]
      rw [pr_9] at h
      by_cases h1 : soP t n p = 1
      · rw [if_pos h1] at h
        cases h
        obtain ⟨v, hv, e⟩ := va_nn hp h1
        exact d_zero (by
          rw [e]
          have : ¬ nI v < 0 := nI_pos (by omega)
          grind)
      rw [if_neg h1] at h
      by_cases h2 : 0 < nmP t n p
      · rw [if_pos h2] at h
        cases h
        refine d_zero ?_
        rcases nmP_c (t := t) (n := n) (p := p) with z | z
        · rw [z] at h2; exact absurd h2 (by decide)
        · exact z.2.2.1
      rw [if_neg h2] at h
      by_cases hs : isS t n p 45
      · rw [if_pos hs] at h
        by_cases h5 : o = 5
        · rw [if_pos h5] at h; cases h; exact Dp.bad
        · rw [if_neg h5] at h; exact Dp.ap (fun y => ih 9 _ _ _ he.2.1) (d_one (Or.inr rfl)) h
      rw [if_neg hs] at h
      by_cases h4 : isS t n p 40 ∧ ¬ o = 5
      · rw [if_pos h4] at h
        rcases cl_c h with ⟨q, e1, rfl⟩ | ⟨q, c, e1, ⟨e2, rfl⟩ | ⟨e2, rfl⟩⟩
        · exact Dp.bad
        · exact fun c0 hc j => by cases hc; exact ih 0 _ _ _ he.2.1 e1 c rfl j
        · exact Dp.bad
      · rw [if_neg h4] at h; cases h; exact Dp.bad
end PD
