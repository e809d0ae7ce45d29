/-! reading a text: tokens and the code that it comes to, with no program in sight -/
set_option maxRecDepth 100000
section PA
variable (t : Nat → Int32) (n : Nat)
def skp : Nat → Nat → Nat
  | 0, p => p
  | r + 1, p => if t p = 32 ∨ t p = 10 then skp r (p + 1) else p
abbrev isDg (c : Int32) : Prop := 48 ≤ c ∧ c ≤ 57
abbrev isLt (c : Int32) : Prop := 97 ≤ c ∧ c ≤ 122
abbrev isSg (c : Int32) : Prop := c = 40 ∨ c = 41 ∨ c = 59 ∨ c = 43 ∨ c = 45 ∨ c = 42 ∨ c = 60 ∨ c = 61
def runD : Nat → Nat → Nat
  | 0, p => p
  | r + 1, p => if isDg (t p) then runD r (p + 1) else p
def runL : Nat → Nat → Nat
  | 0, p => p
  | r + 1, p => if isLt (t p) then runL r (p + 1) else p
def dgV (fr : Nat) : Nat → Int32
  | 0 => 0
  | k + 1 => if k < 4 then 10 * dgV fr k + t (fr + k) - 48 else dgV fr k
def frP (p : Nat) : Nat := skp t (n - p) p
def enP (p : Nat) : Nat := if frP t n p = n then n else if isDg (t (frP t n p)) then runD t (n - frP t n p) (frP t n p) else if isLt (t (frP t n p)) then runL t (n - frP t n p) (frP t n p) else frP t n p + 1
def soP (p : Nat) : Int32 := if frP t n p = n then 0 else if isDg (t (frP t n p)) then (if enP t n p - frP t n p ≤ 4 then 1 else 4) else if isLt (t (frP t n p)) then 2 else if isSg (t (frP t n p)) then 3 else 4
def vaP (p : Nat) : Int32 := if isDg (t (frP t n p)) then dgV t (frP t n p) (enP t n p - frP t n p) else t (frP t n p)
def wdP (p : Nat) : List Int32 := (List.range (enP t n p - frP t n p)).map (fun i => t (frP t n p + i))
abbrev isW (p : Nat) (w : List Int32) : Prop := soP t n p = 2 ∧ wdP t n p = w
abbrev isS (p : Nat) (c : Int32) : Prop := soP t n p = 3 ∧ vaP t n p = c
def nmP (p : Nat) : Int32 := if isW t n p wFar then 1 else if isW t n p wWind then 2 else if isW t n p wLate then 3 else if isW t n p wHid then 4 else if isW t n p wBoat then 5 else if isW t n p wMinute then 6 else 0
abbrev PO : Type := Option (Nat × Option (List Int32))
def sq (r : PO) (k : Nat → PO) : PO := match r with
  | none => none
  | some (q, none) => some (q, none)
  | some (q, some c) => match k q with
    | none => none
    | some (u, none) => some (u, none)
    | some (u, some c') => some (u, some (c ++ c'))
def ap (v : Int32) (r : PO) : PO := match r with
  | none => none
  | some (q, none) => some (q, none)
  | some (q, some c) => some (q, some (c ++ [v]))
def cl (r : PO) : PO := match r with
  | none => none
  | some (q, none) => some (q, none)
  | some (q, some c) => if isS t n q 41 then some (enP t n q, some c) else some (q, none)
/-- what is read from the token at p on, with o opened: 0 any, 2 both, 4 not, 5 sum, 7 term, 9 one; 1, 3, 6, 8 their loops. 'none': not enough fuel; then where it ends, and the code or a failure -/
def pr : Nat → Nat → Nat → Nat → PO
  | 0, _, _, _ => none
  | m + 1, lv, p, o =>
    if lv = 0 then sq (pr m 2 p o) (fun q => pr m 1 q o)
    else if lv = 1 then (if isW t n p wOr then sq (ap (-11) (pr m 2 (enP t n p) o)) (fun q => pr m 1 q o) else some (p, some []))
    else if lv = 2 then sq (pr m 4 p o) (fun q => pr m 3 q o)
    else if lv = 3 then (if isW t n p wAnd then sq (ap (-12) (pr m 4 (enP t n p) o)) (fun q => pr m 3 q o) else some (p, some []))
    else if lv = 4 then (if isW t n p wNot then (if o = 5 then some (p, none) else ap (-13) (pr m 4 (enP t n p) (o + 1))) else sq (pr m 5 p o) (fun q => if isS t n q 60 ∨ isS t n q 61 then ap (if isS t n q 60 then -14 else -15) (pr m 5 (enP t n q) o) else some (q, some [])))
    else if lv = 5 then sq (pr m 7 p o) (fun q => pr m 6 q o)
    else if lv = 6 then (if isS t n p 43 ∨ isS t n p 45 then sq (ap (if isS t n p 43 then -16 else -17) (pr m 7 (enP t n p) o)) (fun q => pr m 6 q o) else some (p, some []))
    else if lv = 7 then sq (pr m 9 p o) (fun q => pr m 8 q o)
    else if lv = 8 then (if isS t n p 42 then sq (ap (-18) (pr m 9 (enP t n p) o)) (fun q => pr m 8 q o) else some (p, some []))
    else if soP t n p = 1 then some (enP t n p, some [vaP t n p])
    else if 0 < nmP t n p then some (enP t n p, some [-nmP t n p])
    else if isS t n p 45 then (if o = 5 then some (p, none) else ap (-19) (pr m 9 (enP t n p) (o + 1)))
    else if isS t n p 40 ∧ ¬ o = 5 then cl t n (pr m 0 (enP t n p) (o + 1))
    else some (p, none)
end PA
section PC
variable (t : Nat → Int32) (n m p o : Nat)
theorem pr_0 : pr t n (m + 1) 0 p o = sq (pr t n m 2 p o) (fun q => pr t n m 1 q o) := rfl
theorem pr_1 : pr t n (m + 1) 1 p o = if isW t n p wOr then sq (ap (-11) (pr t n m 2 (enP t n p) o)) (fun q => pr t n m 1 q o) else some (p, some []) := rfl
theorem pr_2 : pr t n (m + 1) 2 p o = sq (pr t n m 4 p o) (fun q => pr t n m 3 q o) := rfl
theorem pr_3 : pr t n (m + 1) 3 p o = if isW t n p wAnd then sq (ap (-12) (pr t n m 4 (enP t n p) o)) (fun q => pr t n m 3 q o) else some (p, some []) := rfl
theorem pr_4 : pr t n (m + 1) 4 p o = if isW t n p wNot then (if o = 5 then some (p, none) else ap (-13) (pr t n m 4 (enP t n p) (o + 1))) else sq (pr t n m 5 p o) (fun q => if isS t n q 60 ∨ isS t n q 61 then ap (if isS t n q 60 then -14 else -15) (pr t n m 5 (enP t n q) o) else some (q, some [])) := rfl
theorem pr_5 : pr t n (m + 1) 5 p o = sq (pr t n m 7 p o) (fun q => pr t n m 6 q o) := rfl
theorem pr_6 : pr t n (m + 1) 6 p o = if isS t n p 43 ∨ isS t n p 45 then sq (ap (if isS t n p 43 then -16 else -17) (pr t n m 7 (enP t n p) o)) (fun q => pr t n m 6 q o) else some (p, some []) := rfl
theorem pr_7 : pr t n (m + 1) 7 p o = sq (pr t n m 9 p o) (fun q => pr t n m 8 q o) := rfl
theorem pr_8 : pr t n (m + 1) 8 p o = if isS t n p 42 then sq (ap (-18) (pr t n m 9 (enP t n p) o)) (fun q => pr t n m 8 q o) else some (p, some []) := rfl
theorem pr_9 (k : Nat) : pr t n (m + 1) (k + 9) p o = if soP t n p = 1 then some (enP t n p, some [vaP t n p]) else if 0 < nmP t n p then some (enP t n p, some [-nmP t n p]) else if isS t n p 45 then (if o = 5 then some (p, none) else ap (-19) (pr t n m 9 (enP t n p) (o + 1))) else if isS t n p 40 ∧ ¬ o = 5 then cl t n (pr t n m 0 (enP t n p) (o + 1)) else some (p, none) := rfl
end PC
section PB
variable {t : Nat → Int32} {n : Nat}
theorem sq_c {r : PO} {k : Nat → PO} {x : Nat × Option (List Int32)} (h : sq r k = some x) : (∃ q, r = some (q, none) ∧ x = (q, none)) ∨ ∃ q c, r = some (q, some c) ∧ ((∃ u, k q = some (u, none) ∧ x = (u, none)) ∨ ∃ u c', k q = some (u, some c') ∧ x = (u, some (c ++ c'))) := by
  match r, h with
  | some (q, none), h => exact Or.inl ⟨q, rfl, (Option.some.inj h).symm⟩
  | some (q, some c), h =>
    refine Or.inr ⟨q, c, rfl, ?_⟩
    unfold sq at h
    simp only at h
    match hk : k q, h with
    | some (u, none), h => exact Or.inl ⟨u, rfl, (Option.some.inj h).symm⟩
    | some (u, some c'), h => exact Or.inr ⟨u, c', rfl, (Option.some.inj h).symm⟩
theorem ap_c {v : Int32} {r : PO} {x : Nat × Option (List Int32)} (h : ap v r = some x) : (∃ q, r = some (q, none) ∧ x = (q, none)) ∨ ∃ q c, r = some (q, some c) ∧ x = (q, some (c ++ [v])) := by
  match r, h with
  | some (q, none), h => exact Or.inl ⟨q, rfl, (Option.some.inj h).symm⟩
  | some (q, some c), h => exact Or.inr ⟨q, c, rfl, (Option.some.inj h).symm⟩
theorem cl_c {r : PO} {x : Nat × Option (List Int32)} (h : cl t n r = some x) : (∃ q, r = some (q, none) ∧ x = (q, none)) ∨ ∃ q c, r = some (q, some c) ∧ ((isS t n q 41 ∧ x = (enP t n q, some c)) ∨ (¬ isS t n q 41 ∧ x = (q, none))) := by
  match r, h with
  | some (q, none), h => exact Or.inl ⟨q, rfl, (Option.some.inj h).symm⟩
  | some (q, some c), h =>
    refine Or.inr ⟨q, c, rfl, ?_⟩
    unfold cl at h
    simp only at h
    split at h
    · rename_i hs; exact Or.inl ⟨hs, (Option.some.inj h).symm⟩
    · rename_i hs; exact Or.inr ⟨hs, (Option.some.inj h).symm⟩
theorem sq_n {r : PO} {k : Nat → PO} (h1 : r ≠ none) (h2 : ∀ q c, r = some (q, some c) → k q ≠ none) : sq r k ≠ none := by
  match r, h1, h2 with
  | some (q, none), _, _ => intro h; cases h
  | some (q, some c), _, h2 =>
    have := h2 q c rfl
    unfold sq
    simp only
    match hk : k q, this with
    | some (u, none), _ => intro h; cases h
    | some (u, some c'), _ => intro h; cases h
theorem ap_n {v : Int32} {r : PO} (h1 : r ≠ none) : ap v r ≠ none := by
  match r, h1 with
  | some (q, none), _ => intro h; cases h
  | some (q, some c), _ => intro h; cases h
theorem cl_n {r : PO} (h1 : r ≠ none) : cl t n r ≠ none := by
  match r, h1 with
  | some (q, none), _ => intro h; cases h
  | some (q, some c), _ =>
    unfold cl
    simp only
    split <;> (intro h; cases h)
theorem skp_le : ∀ r p, p ≤ skp t r p ∧ skp t r p ≤ p + r := by
  intro r
  induction r with
  | zero => intro p; exact ⟨Nat.le_refl _, Nat.le_refl _⟩
  | succ r ih =>
    intro p
    unfold skp
    split
    · have := ih (p + 1); omega
    · omega
theorem runD_le : ∀ r p, p ≤ runD t r p ∧ runD t r p ≤ p + r := by
  intro r
  induction r with
  | zero => intro p; exact ⟨Nat.le_refl _, Nat.le_refl _⟩
  | succ r ih =>
    intro p
    unfold runD
    split
    · have := ih (p + 1); omega
    · omega
theorem runL_le : ∀ r p, p ≤ runL t r p ∧ runL t r p ≤ p + r := by
  intro r
  induction r with
  | zero => intro p; exact ⟨Nat.le_refl _, Nat.le_refl _⟩
  | succ r ih =>
    intro p
    unfold runL
    split
    · have := ih (p + 1); omega
    · omega
theorem fr_le {p : Nat} (hp : p ≤ n) : p ≤ frP t n p ∧ frP t n p ≤ n := by
  have := skp_le (t := t) (n - p) p
  unfold frP
  omega
theorem en_le {p : Nat} (hp : p ≤ n) : frP t n p ≤ enP t n p ∧ enP t n p ≤ n ∧ (¬ frP t n p = n → frP t n p < enP t n p) := by
  have hf := fr_le (t := t) hp
  unfold enP
  split
  · rename_i h; exact ⟨by omega, Nat.le_refl _, fun z => absurd h z⟩
  · rename_i hn
    have hlt : frP t n p < n := by omega
    obtain ⟨r, hr⟩ : ∃ r, n - frP t n p = r + 1 := ⟨n - frP t n p - 1, by omega⟩
    split
    · rename_i hd
      have := runD_le (t := t) r (frP t n p + 1)
      rw [hr]
      unfold runD
      rw [if_pos hd]
      exact ⟨by omega, by omega, fun _ => by omega⟩
    · split
      · rename_i hd
        have := runL_le (t := t) r (frP t n p + 1)
        rw [hr]
        unfold runL
        rw [if_pos hd]
        exact ⟨by omega, by omega, fun _ => by omega⟩
      · exact ⟨by omega, by omega, fun _ => by omega⟩
theorem en_gt {p : Nat} (hp : p ≤ n) (h : ¬ soP t n p = 0) : p < enP t n p := by
  have h1 := fr_le (t := t) hp
  have h2 := en_le (t := t) hp
  have : ¬ frP t n p = n := fun e => h (by unfold soP; rw [if_pos e])
  have := h2.2.2 this
  omega
theorem isW_0 {p : Nat} {w : List Int32} (h : isW t n p w) : ¬ soP t n p = 0 := by rw [h.1]; decide
theorem isS_0 {p : Nat} {c : Int32} (h : isS t n p c) : ¬ soP t n p = 0 := by rw [h.1]; decide
theorem nmP_c {p : Nat} : nmP t n p = 0 ∨ (soP t n p = 2 ∧ 0 < nmP t n p ∧ -7 < -nmP t n p ∧ nmP t n p ≤ 6) := by
  unfold nmP
  split
  · rename_i h; exact Or.inr ⟨h.1, by decide, by decide, by decide⟩
  · split
    · rename_i h; exact Or.inr ⟨h.1, by decide, by decide, by decide⟩
    · split
      · rename_i h; exact Or.inr ⟨h.1, by decide, by decide, by decide⟩
      · split
        · rename_i h; exact Or.inr ⟨h.1, by decide, by decide, by decide⟩
        · split
          · rename_i h; exact Or.inr ⟨h.1, by decide, by decide, by decide⟩
          · split
            · rename_i h; exact Or.inr ⟨h.1, by decide, by decide, by decide⟩
            · exact Or.inl rfl
/-- the code is no longer than what is read -/
def Ln (n p : Nat) (x : Nat × Option (List Int32)) : Prop := p ≤ x.1 ∧ x.1 ≤ n ∧ ∀ c, x.2 = some c → p + c.length ≤ x.1
theorem Ln.sq {r : PO} {k : Nat → PO} {p : Nat} {x : Nat × Option (List Int32)} (h1 : ∀ y, r = some y → Ln n p y) (h2 : ∀ q c y, r = some (q, some c) → q ≤ n → k q = some y → Ln n q y) (h : sq r k = some x) : Ln n p x := by
  rcases sq_c h with ⟨q, e1, rfl⟩ | ⟨q, c, e1, ⟨u, e2, rfl⟩ | ⟨u, c', e2, rfl⟩⟩
  · exact h1 _ e1
  · obtain ⟨a1, a2, a3⟩ := h1 _ e1
    obtain ⟨b1, b2, b3⟩ := h2 q c _ e1 a2 e2
    exact ⟨Nat.le_trans a1 b1, b2, fun c h => by cases h⟩
  · obtain ⟨a1, a2, a3⟩ := h1 _ e1
    obtain ⟨b1, b2, b3⟩ := h2 q c _ e1 a2 e2
    refine ⟨Nat.le_trans a1 b1, b2, fun c0 h => ?_⟩
    cases h
    have z1 := a3 c rfl
    have z2 := b3 c' rfl
    simp only at z1 z2 ⊢
    rw [List.length_append]
    omega
theorem Ln.ap {r : PO} {v : Int32} {p p' : Nat} {x : Nat × Option (List Int32)} (h1 : ∀ y, r = some y → Ln n p' y) (hp : p < p') (h : ap v r = some x) : Ln n p x := by
  rcases ap_c h with ⟨q, e1, rfl⟩ | ⟨q, c, e1, rfl⟩
  · obtain ⟨a1, a2, a3⟩ := h1 _ e1
    exact ⟨by simp only at a1 ⊢; omega, a2, fun c h => by cases h⟩
  · obtain ⟨a1, a2, a3⟩ := h1 _ e1
    refine ⟨by simp only at a1 ⊢; omega, a2, fun c0 h => ?_⟩
    cases h
    have z1 := a3 c rfl
    simp only at z1 ⊢
    rw [List.length_append]
    simp
    omega
theorem Ln.nil {p : Nat} (hp : p ≤ n) : Ln n p (p, some []) := ⟨Nat.le_refl _, hp, fun c h => by cases h; simp⟩
theorem Ln.bad {p : Nat} (hp : p ≤ n) : Ln n p (p, none) := ⟨Nat.le_refl _, hp, fun c h => by cases h⟩
theorem pr_len : ∀ (m lv p o : Nat) (x : Nat × Option (List Int32)), p ≤ n → pr t n m lv p o = some x → Ln n p x := by
  intro m
  induction m with
  | zero => intro lv p o x _ h; cases h
  | succ m ih =>
    intro lv p o x hp h
    have he := en_le (t := t) hp
    have hf := fr_le (t := t) hp
    match lv, h with
    | 0, h => rw [pr_0] at h; exact Ln.sq (fun y => ih _ _ _ _ hp) (fun q c y _ hq => ih _ _ _ _ hq) h
    | 1, h =>
      rw [pr_1] at h
      by_cases hw : isW t n p wOr
      · rw [if_pos hw] at h
        exact Ln.sq (fun y => Ln.ap (fun y => ih _ _ _ _ he.2.1) (en_gt hp (isW_0 hw))) (fun q c y _ hq => ih _ _ _ _ hq) h
      · rw [if_neg hw] at h; cases h; exact Ln.nil hp
    | 2, h => rw [pr_2] at h; exact Ln.sq (fun y => ih _ _ _ _ hp) (fun q c y _ hq => ih _ _ _ _ hq) h
    | 3, h =>
      rw [pr_3] at h
      by_cases hw : isW t n p wAnd
      · rw [if_pos hw] at h
        exact Ln.sq (fun y => Ln.ap (fun y => ih _ _ _ _ he.2.1) (en_gt hp (isW_0 hw))) (fun q c y _ hq => ih _ _ _ _ hq) h
      · rw [if_neg hw] at h; cases h; exact Ln.nil hp
    | 4, h =>
      rw [pr_4] at h
      by_cases hw : isW t n p wNot
      · rw [if_pos hw] at h
        by_cases h5 : o = 5
        · rw [if_pos h5] at h; cases h; exact Ln.bad hp
        · rw [if_neg h5] at h; exact Ln.ap (fun y => ih _ _ _ _ he.2.1) (en_gt hp (isW_0 hw)) h
      · rw [if_neg hw] at h
        refine Ln.sq (fun y => ih _ _ _ _ hp) (fun q c y _ hq hk => ?_) h
        by_cases hs : isS t n q 60 ∨ isS t n q 61
        · rw [if_pos hs] at hk
          exact Ln.ap (fun y => ih _ _ _ _ (en_le (t := t) hq).2.1) (en_gt hq (hs.elim isS_0 isS_0)) hk
        · rw [if_neg hs] at hk; cases hk; exact Ln.nil hq
    | 5, h => rw [pr_5] at h; exact Ln.sq (fun y => ih _ _ _ _ hp) (fun q c y _ hq => ih _ _ _ _ hq) h
    | 6, h =>
      rw [pr_6] at h
      by_cases hs : isS t n p 43 ∨ isS t n p 45
      · rw [if_pos hs] at h
        exact Ln.sq (fun y => Ln.ap (fun y => ih _ _ _ _ he.2.1) (en_gt hp (hs.elim isS_0 isS_0))) (fun q c y _ hq => ih _ _ _ _ hq) h
      · rw [if_neg hs] at h; cases h; exact Ln.nil hp
    | 7, h => rw [pr_7] at h; exact Ln.sq (fun y => ih _ _ _ _ hp) (fun q c y _ hq => ih _ _ _ _ hq) h
    | 8, h =>
      rw [pr_8] at h
      by_cases hs : isS t n p 42
      · rw [if_pos hs] at h
        exact Ln.sq (fun y => Ln.ap (fun y => ih _ _ _ _ he.2.1) (en_gt hp (isS_0 hs))) (fun q c y _ hq => ih _ _ _ _ hq) h
      · rw [if_neg hs] at h; cases h; exact Ln.nil hp
    | k + 9, h =>
      rw [pr_9] at h
      by_cases h1 : soP t n p = 1
      · rw [if_pos h1] at h
        cases h
        exact ⟨by simp only; omega, he.2.1, fun c h => by cases h; have := en_gt hp (t := t) (by rw [h1]; decide); simp only [List.length_singleton]; omega⟩
      rw [if_neg h1] at h
      by_cases h2 : 0 < nmP t n p
      · rw [if_pos h2] at h
        cases h
        refine ⟨by simp only; omega, he.2.1, fun c h => ?_⟩
        cases h
        have h3 : soP t n p = 2 := by
          rcases nmP_c (t := t) (n := n) (p := p) with z | z
          · rw [z] at h2; exact absurd h2 (by decide)
          · exact z.1
        have := en_gt hp (t := t) (by rw [h3]; decide)
        simp only [List.length_singleton]
        omega
      rw [if_neg h2] at h
      by_cases hs : isS t n p 45
      · rw [if_pos hs] at h
        by_cases h5 : o = 5
        · rw [if_pos h5] at h; cases h; exact Ln.bad hp
        · rw [if_neg h5] at h; exact Ln.ap (fun y => ih _ _ _ _ he.2.1) (en_gt hp (isS_0 hs)) h
      rw [if_neg hs] at h
      by_cases h4 : isS t n p 40 ∧ ¬ o = 5
      · rw [if_pos h4] at h
        rcases cl_c h with ⟨q, e1, rfl⟩ | ⟨q, c, e1, ⟨e2, rfl⟩ | ⟨e2, rfl⟩⟩
        · obtain ⟨a1, a2, a3⟩ := ih _ _ _ _ he.2.1 e1
          exact ⟨by simp only at a1 ⊢; omega, a2, fun c h => by cases h⟩
        · obtain ⟨a1, a2, a3⟩ := ih _ _ _ _ he.2.1 e1
          have a4 := a3 c rfl
          simp only at a1 a2 a4
          have a5 := en_le (t := t) a2
          have a6 := fr_le (t := t) a2
          exact ⟨by simp only; omega, a5.2.1, fun c0 h => by cases h; simp only; omega⟩
        · obtain ⟨a1, a2, a3⟩ := ih _ _ _ _ he.2.1 e1
          exact ⟨by simp only at a1 ⊢; omega, a2, fun c h => by cases h⟩
      · rw [if_neg h4] at h; cases h; exact Ln.bad hp
/-- fuel enough -/
theorem pr_tot : ∀ (m lv p o : Nat), lv ≤ 9 → p ≤ n → 12 * (n - p) + (10 - lv) < m → pr t n m lv p o ≠ none := by
  intro m
  induction m with
  | zero => intro lv p o _ _ h; omega
  | succ m ih =>
    intro lv p o hl hp hm
    have he := en_le (t := t) hp
    have q1 : ∀ (lv' lv2 : Nat), lv' ≤ 9 → lv2 ≤ 9 → lv < lv' → lv < lv2 → sq (pr t n m lv' p o) (fun q => pr t n m lv2 q o) ≠ none := fun lv' lv2 a1 a2 a3 a4 =>
      sq_n (ih _ _ _ a1 hp (by omega)) (fun q c hq => by
        have := pr_len _ _ _ _ _ hp hq
        obtain ⟨b1, b2, -⟩ := this
        simp only at b1 b2
        exact ih _ _ _ a2 b2 (by omega))
    have q2 : ∀ (lv' lv2 o' : Nat) (v : Int32), lv' ≤ 9 → lv2 ≤ 9 → ¬ soP t n p = 0 → sq (ap v (pr t n m lv' (enP t n p) o')) (fun q => pr t n m lv2 q o) ≠ none := fun lv' lv2 o' v a1 a2 a3 => by
      have a4 := en_gt hp a3
      refine sq_n (ap_n (ih _ _ _ a1 he.2.1 (by omega))) (fun q c hq => ?_)
      rcases ap_c hq with ⟨q', e1, e2⟩ | ⟨q', c', e1, e2⟩
      · cases e2
      · cases e2
        obtain ⟨b1, b2, -⟩ := pr_len _ _ _ _ _ he.2.1 e1
        simp only at b1 b2
        exact ih _ _ _ a2 b2 (by omega)
    have q3 : ∀ lv' o', lv' ≤ 9 → ¬ soP t n p = 0 → pr t n m lv' (enP t n p) o' ≠ none := fun lv' o' a1 a2 => by
      have a4 := en_gt hp a2
      exact ih _ _ _ a1 he.2.1 (by omega)
    match lv, hl, hm, q1, q2 with
    | 0, _, _, q1, _ => rw [pr_0]; exact q1 2 1 (by omega) (by omega) (by omega) (by omega)
    | 1, _, _, _, q2 =>
      rw [pr_1]
      by_cases hw : isW t n p wOr
      · rw [if_pos hw]; exact q2 _ _ _ _ (by omega) (by omega) (isW_0 hw)
      · rw [if_neg hw]; exact fun h => by cases h
    | 2, _, _, q1, _ => rw [pr_2]; exact q1 4 3 (by omega) (by omega) (by omega) (by omega)
    | 3, _, _, _, q2 =>
      rw [pr_3]
      by_cases hw : isW t n p wAnd
      · rw [if_pos hw]; exact q2 _ _ _ _ (by omega) (by omega) (isW_0 hw)
      · rw [if_neg hw]; exact fun h => by cases h
    | 4, _, hm, _, _ =>
      rw [pr_4]
      by_cases hw : isW t n p wNot
      · rw [if_pos hw]
        by_cases h5 : o = 5
        · rw [if_pos h5]; exact fun h => by cases h
        · rw [if_neg h5]; exact ap_n (q3 _ _ (by omega) (isW_0 hw))
      · rw [if_neg hw]
        refine sq_n (ih _ _ _ (by omega) hp (by omega)) (fun q c hq => ?_)
        obtain ⟨b1, b2, -⟩ := pr_len _ _ _ _ _ hp hq
        simp only at b1 b2
        by_cases hs : isS t n q 60 ∨ isS t n q 61
        · rw [if_pos hs]
          have a4 := en_gt b2 (hs.elim isS_0 isS_0)
          have a5 := en_le (t := t) b2
          exact ap_n (ih _ _ _ (by omega) a5.2.1 (by omega))
        · rw [if_neg hs]; exact fun h => by cases h
    | 5, _, _, q1, _ => rw [pr_5]; exact q1 7 6 (by omega) (by omega) (by omega) (by omega)
    | 6, _, _, _, q2 =>
      rw [pr_6]
      by_cases hs : isS t n p 43 ∨ isS t n p 45
      · rw [if_pos hs]; exact q2 _ _ _ _ (by omega) (by omega) (hs.elim isS_0 isS_0)
      · rw [if_neg hs]; exact fun h => by cases h
    | 7, _, _, q1, _ => rw [pr_7]; exact q1 9 8 (by omega) (by omega) (by omega) (by omega)
    | 8, _, _, _, q2 =>
      rw [pr_8]
      by_cases hs : isS t n p 42
      · rw [if_pos hs]; exact q2 _ _ _ _ (by omega) (by omega) (isS_0 hs)
      · rw [if_neg hs]; exact fun h => by cases h
    | k + 9, _, _, _, _ =>
      rw [pr_9]
      by_cases h1 : soP t n p = 1
      · rw [if_pos h1]; exact fun h => by cases h
      rw [if_neg h1]
      by_cases h2 : 0 < nmP t n p
      · rw [if_pos h2]; exact fun h => by cases h
      rw [if_neg h2]
      by_cases hs : isS t n p 45
      · rw [if_pos hs]
        by_cases h5 : o = 5
        · rw [if_pos h5]; exact fun h => by cases h
        · rw [if_neg h5]; exact ap_n (q3 _ _ (by omega) (isS_0 hs))
      rw [if_neg hs]
      by_cases h4 : isS t n p 40 ∧ ¬ o = 5
      · rw [if_pos h4]; exact cl_n (q3 _ _ (by omega) (isS_0 h4.1))
      · rw [if_neg h4]; exact fun h => by cases h
end PB
