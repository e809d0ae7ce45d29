/-! a sheet gets a new row: in plain, and in the world -/
set_option maxRecDepth 100000
section P92
variable {Γ : Gam} {A : Nat → Prop} {L : Nat → Nat} {f : Nat → Int32} {g : Nat → Int32 → Int32} {T : TX} {x : XD}
theorem zr_o {s : Int32} : ∀ (m : Nat) {j : Nat} {i : Int32}, j ≠ 38 → zr g s m j i = g j i := by
  intro m
  induction m with
  | zero => intro j i _; rfl
  | succ m ih => intro j i hj; show ug (zr g s m) 38 _ 0 j i = _; rw [ug_k _ _ _ hj]; exact ih hj
theorem zr_in {k : Nat} (hk : k < 4) : ∀ (m : Nat), m ≤ 40 → ∀ i, i < m → zr g (nI k) m 38 (40 * nI k + nI i) = 0 := by
  intro m
  induction m with
  | zero => intro _ i hi; omega
  | succ m ih =>
    intro hm i hi
    show ug (zr g (nI k) m) 38 (40 * nI k + nI m) 0 38 (40 * nI k + nI i) = 0
    by_cases e : i = m
    · rw [e, ug_s]
    · rw [ug_i _ _ _ (fun z => by rw [it_e, it_e, nI_eq (by omega) (by omega)] at z; omega)]
      exact ih (by omega) i (by omega)
theorem zr_out {k s : Nat} (hk : k < 4) (hs : s < 4) (hne : s ≠ k) {i : Nat} (hi : i < 40) : ∀ (m : Nat), m ≤ 40 → zr g (nI k) m 38 (40 * nI s + nI i) = g 38 (40 * nI s + nI i) := by
  intro m
  induction m with
  | zero => intro _; rfl
  | succ m ih =>
    intro hm
    show ug (zr g (nI k) m) 38 (40 * nI k + nI m) 0 38 (40 * nI s + nI i) = _
    rw [ug_i _ _ _ (fun z => by rw [it_e, it_e, nI_eq (by omega) (by omega)] at z; omega)]
    exact ih (by omega)
/-- the world with a new row of the sort s and the size n at the sheet k -/
def xnS (x : XD) (k : Nat) (s n : Int32) : XD := (x.1, (fun m j => if m = 38 ∧ j = nI k then s else if m = 39 ∧ j = nI k then n else if m = 53 + k then 0 else x.2.1 m j), x.2.2)
theorem xnS_q {k m : Nat} {s n : Int32} (h1 : m ≠ 38) (h2 : m ≠ 39) (h3 : m ≠ 53 + k) : (xnS x k s n).q m = x.q m := funext fun j => by
  show (if m = 38 ∧ j = nI k then s else if m = 39 ∧ j = nI k then n else if m = 53 + k then 0 else x.2.1 m j) = _
  rw [if_neg (fun z => h1 z.1), if_neg (fun z => h2 z.1), if_neg h3]
theorem xnS_38 {k : Nat} {s n : Int32} (j : Int32) : (xnS x k s n).q 38 j = if j = nI k then s else x.q 38 j := by
  show (if 38 = 38 ∧ j = nI k then s else if 38 = 39 ∧ j = nI k then n else if 38 = 53 + k then 0 else x.2.1 38 j) = _
  by_cases e : j = nI k
  · rw [if_pos ⟨rfl, e⟩, if_pos e]
  · rw [if_neg (fun z => e z.2), if_neg (fun z => e z.2), if_neg (by omega), if_neg e]
theorem xnS_39 {k : Nat} {s n : Int32} (j : Int32) : (xnS x k s n).q 39 j = if j = nI k then n else x.q 39 j := by
  show (if 39 = 38 ∧ j = nI k then s else if 39 = 39 ∧ j = nI k then n else if 39 = 53 + k then 0 else x.2.1 39 j) = _
  by_cases e : j = nI k
  · rw [if_neg (fun z => by omega), if_pos ⟨rfl, e⟩, if_pos e]
  · rw [if_neg (fun z => e z.2), if_neg (fun z => e z.2), if_neg (by omega), if_neg e]
theorem xnS_row {k : Nat} {s n : Int32} (j : Int32) : (xnS x k s n).q (53 + k) j = 0 := by
  show (if 53 + k = 38 ∧ j = nI k then s else if 53 + k = 39 ∧ j = nI k then n else if 53 + k = 53 + k then 0 else x.2.1 (53 + k) j) = _
  rw [if_neg (fun z => by omega), if_neg (fun z => by omega), if_pos rfl]
/-- a tie that the other arrays keep -/
theorem XR.arrays {g' : Nat → Int32 → Int32} {q' : Nat → Int32 → Int32} (r : XR f g x) (hq : ∀ m, m ≠ 38 → m ≠ 39 → (m < 53 ∨ 57 ≤ m) → q' m = x.q m) (hg : ∀ m, m ≠ 36 → m ≠ 37 → m ≠ 38 → ∀ j, g' m j = g m j) (h7 : ∀ s, s < 4 → XRs g' q' s) : XR f g' (x.1, q', x.2.2) := by
  obtain ⟨r1, r2, r3, r4, r5, r6, r7⟩ := r
  refine ⟨r1, fun i hi => ?_, r3, fun j hj b h => ?_, fun j h0 h1 => ?_, fun h => ?_, h7⟩
  · show q' 7 (nI i) = _
    rw [hq 7 (by decide) (by decide) (by decide)]; exact r2 i hi
  · show q' j b = _
    rw [hq j (by rcases xgd_in hj with rfl | rfl | rfl | rfl | rfl | rfl | rfl <;> decide) (by rcases xgd_in hj with rfl | rfl | rfl | rfl | rfl | rfl | rfl <;> decide) (by rcases xgd_in hj with rfl | rfl | rfl | rfl | rfl | rfl | rfl <;> decide), hg (xg j) (by rcases xgd_in hj with rfl | rfl | rfl | rfl | rfl | rfl | rfl <;> decide) (by rcases xgd_in hj with rfl | rfl | rfl | rfl | rfl | rfl | rfl <;> decide) (by rcases xgd_in hj with rfl | rfl | rfl | rfl | rfl | rfl | rfl <;> decide)]
    exact r4 j hj b h
  · show q' 16 j &&& 255 = _
    rw [hq 16 (by decide) (by decide) (by decide), hg 16 (by decide) (by decide) (by decide)]; exact r5 j h0 h1
  · have q := r6 h
    show XRi f g' q'
    unfold XRi at q ⊢
    rw [hq 33 (by decide) (by decide) (by decide), hq 32 (by decide) (by decide) (by decide)]
    simp only [hg 35 (by decide) (by decide) (by decide)]
    refine ⟨q.1, q.2.1, q.2.2.1, q.2.2.2.1, q.2.2.2.2.1, q.2.2.2.2.2.1, q.2.2.2.2.2.2.1, q.2.2.2.2.2.2.2.1, q.2.2.2.2.2.2.2.2.1, q.2.2.2.2.2.2.2.2.2.1, q.2.2.2.2.2.2.2.2.2.2.1, fun j h1 h2 b h3 h4 => ?_⟩
    rw [hq j (by omega) (by omega) (by omega)]
    exact q.2.2.2.2.2.2.2.2.2.2.2 j h1 h2 b h3 h4
theorem XR.sheet {k : Nat} {s n : Int32} (r : XR f g x) (hk : k < 4) : XR f (zr (ug (ug g 36 (nI k) s) 37 (nI k) n) (nI k) 40) (xnS x k s n) := by
  have r7 := r.2.2.2.2.2.2
  refine r.arrays (fun m h1 h2 h3 => xnS_q h1 h2 (by omega)) (fun m h1 h2 h3 j => by rw [zr_o _ h3, ug_k _ _ _ h2, ug_k _ _ _ h1]) (fun t ht => ?_)
  show XRs _ (xnS x k s n).q t
  have q := r7 t ht
  unfold XRs at q ⊢
  rw [xnS_38, xnS_39, zr_o _ (by decide), zr_o _ (by decide), ug_k _ _ _ (by decide)]
  by_cases e : t = k
  · subst e
    rw [if_pos rfl, if_pos rfl, ug_s, ug_s]
    refine ⟨rfl, fun _ => ⟨rfl, fun i _ hi => ?_⟩⟩
    rw [xnS_row, zr_in ht 40 (by omega) i hi]
  · have ne : ¬ nI t = nI k := fun z => e ((nI_eq (by omega) (by omega)).mp z)
    rw [if_neg ne, if_neg ne, ug_i _ _ _ ne, ug_i _ _ _ ne, ug_k _ _ _ (by decide)]
    refine ⟨q.1, fun h => ⟨(q.2 h).1, fun i h1 h2 => ?_⟩⟩
    rw [xnS_q (by omega) (by omega) (by omega), zr_out hk ht e h2 40 (by omega), ug_k _ _ _ (by decide), ug_k _ _ _ (by decide)]
    exact (q.2 h).2 i h1 h2
theorem XR.sheet0 {k : Nat} {n : Int32} (r : XR f g x) (hk : k < 4) : XR f (ug g 36 (nI k) (-1)) (xnS x k (-1) n) := by
  have r7 := r.2.2.2.2.2.2
  refine r.arrays (fun m h1 h2 h3 => xnS_q h1 h2 (by omega)) (fun m h1 h2 h3 j => by rw [ug_k _ _ _ h1]) (fun t ht => ?_)
  show XRs _ (xnS x k (-1) n).q t
  have q := r7 t ht
  unfold XRs at q ⊢
  rw [xnS_38, xnS_39]
  by_cases e : t = k
  · subst e
    rw [if_pos rfl, ug_s]
    exact ⟨rfl, fun h => absurd rfl h⟩
  · have ne : ¬ nI t = nI k := fun z => e ((nI_eq (by omega) (by omega)).mp z)
    rw [if_neg ne, if_neg ne, ug_i _ _ _ ne]
    refine ⟨q.1, fun h => ?_⟩
    rw [ug_k _ _ _ (by decide)]
    refine ⟨(q.2 h).1, fun i h1 h2 => ?_⟩
    rw [xnS_q (by omega) (by omega) (by omega), ug_k _ _ _ (by decide)]
    exact (q.2 h).2 i h1 h2
end P92
