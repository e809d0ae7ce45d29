/-! THE WORLD OF THE CLASS (X): one object of 35 fields, its arrays, boats, sheets, texts; told by names of cells -/
set_option maxRecDepth 100000
/-! worlds by names: S says what lies under a name, L where -/
def WD (S : Nat → Option va_E) (L : Nat → Nat) (h : PH) : Prop := (∀ k e, S k = some e → h (L k) = some e) ∧ ∀ k k', S k ≠ none → S k' ≠ none → L k = L k' → k = k'
theorem WD.at {S : Nat → Option va_E} {L : Nat → Nat} {h : PH} (w : WD S L h) {k : Nat} {e : va_E} (hs : S k = some e) : h (L k) = some e := w.1 k e hs
theorem WD.put {S S' : Nat → Option va_E} {L : Nat → Nat} {h : PH} (w : WD S L h) {k0 : Nat} {e : va_E} (h0 : S k0 ≠ none) (he : S' k0 = some e) (ho : ∀ k, k ≠ k0 → S' k = S k) : WD S' L (pu h (L k0) e) := by
  have hn : ∀ k, S' k ≠ none → S k ≠ none := fun k hk => by
    by_cases e0 : k = k0
    · rw [e0]; exact h0
    · rw [← ho k e0]; exact hk
  refine ⟨fun k x hk => ?_, fun k k' hk hk' q => w.2 k k' (hn k hk) (hn k' hk') q⟩
  by_cases e0 : k = k0
  · subst e0
    rw [pu_self, ← hk, he]
  · have hne : L k ≠ L k0 := fun q => e0 (w.2 k k0 (hn k (by rw [hk]; exact fun z => by cases z)) h0 q)
    rw [pu_ne _ _ hne]
    exact w.1 k x (by rw [← ho k e0]; exact hk)
theorem WD.fresh {S : Nat → Option va_E} {L : Nat → Nat} {h : PH} (w : WD S L h) {a : Nat} (e : va_E) (ha : h a = none) : WD S L (pu h a e) := by
  refine ⟨fun k x hk => ?_, w.2⟩
  have h1 := w.1 k x hk
  rw [pu_ne _ _ (fun q => by rw [q, ha] at h1; cases h1)]
  exact h1
/-- a new cell takes the name k0, and the cell under k1 changes with it -/
theorem WD.swap {S S' : Nat → Option va_E} {L : Nat → Nat} {h : PH} (w : WD S L h) {k0 k1 a : Nat} {e0 e1 : va_E} (ha : h a = none) (hk : k1 ≠ k0) (h1 : S k1 ≠ none) (he0 : S' k0 = some e0) (he1 : S' k1 = some e1) (ho : ∀ k, k ≠ k0 → k ≠ k1 → S' k = S k) : WD S' (L1 L k0 a) (pu (pu h a e0) (L k1) e1) := by
  have hat : ∀ k, k ≠ k0 → S' k ≠ none → S k ≠ none := fun k hk0 hs => by
    by_cases e : k = k1
    · rw [e]; exact h1
    · rw [← ho k hk0 e]; exact hs
  have hfree : ∀ k, S k ≠ none → L k ≠ a := fun k hs q => by
    cases hx : S k with
    | none => exact hs hx
    | some x =>
      have := w.1 k x hx
      rw [q, ha] at this
      cases this
  have hLk : L1 L k0 a k0 = a := if_pos rfl
  have hLj : ∀ j, j ≠ k0 → L1 L k0 a j = L j := fun j hj => if_neg hj
  refine ⟨fun k x hx => ?_, fun k k' hk1 hk2 q => ?_⟩
  · by_cases e : k = k0
    · subst e
      rw [hLk, pu_ne _ _ (fun q => hfree k1 h1 q.symm), pu_self, ← hx, he0]
    · rw [hLj k e]
      by_cases e' : k = k1
      · subst e'
        rw [pu_self, ← hx, he1]
      · have hs : S k ≠ none := hat k e (by rw [hx]; exact fun z => by cases z)
        rw [pu_ne _ _ (fun q => e' (w.2 k k1 hs h1 q)), pu_ne _ _ (hfree k hs)]
        exact w.1 k x (by rw [← ho k e e']; exact hx)
  · by_cases e : k = k0
    · by_cases e' : k' = k0
      · rw [e, e']
      · subst e
        rw [hLk, hLj k' e'] at q
        exact absurd q.symm (hfree k' (hat k' e' hk2))
    · by_cases e' : k' = k0
      · subst e'
        rw [hLk, hLj k e] at q
        exact absurd q (hfree k (hat k e hk1))
      · rw [hLj k e, hLj k' e'] at q
        exact w.2 k k' (hat k e hk1) (hat k' e' hk2) q
/-! the names: 0 to 34 the fields' arrays, 35 the object, 36 to 42 the boats, 43 to 48 the image's rows, 49 to 52 the sheets, 53 to 56 their rows, 57 to 62 the texts -/
def xar : Nat → Bool
  | 0 => true | 1 => true | 2 => true | 3 => true | 4 => true | 5 => true | 7 => true | 10 => true | 12 => true | 14 => true | 15 => true | 16 => true | 25 => true | 26 => true | 29 => true | 31 => true | 32 => true | 33 => true | 34 => true
  | _ => false
def xia : Nat → Bool
  | 1 => true | 2 => true | 3 => true | 4 => true | 5 => true | 7 => true | 16 => true | 25 => true | 26 => true | 29 => true | 32 => true | 33 => true | 43 => true | 44 => true | 45 => true | 46 => true | 47 => true | 48 => true
  | _ => false
def xln : Nat → Nat
  | 7 => 5 | 16 => 160 | 32 => 5 | 33 => 4
  | _ => 7
theorem xln_lt (k : Nat) : xln k < 2 ^ 31 := by
  unfold xln
  split <;> decide
/-- ints of fields; ints of arrays (36: the boats' numbers, 37: their kinds, 38: the sheets' sorts, 39: their sizes); how many boats stand in the row; the texts' trees; the strings of keys and names; the fields of the fault -/
abbrev XD : Type := (Nat → Int32) × (Nat → Int32 → Int32) × Nat × (Nat → Nat → Nat) × (Nat → Nat) × (Nat → Nat) × List Value
abbrev XD.p (x : XD) : Nat → Int32 := x.1
abbrev XD.q (x : XD) : Nat → Int32 → Int32 := x.2.1
abbrev XD.nb (x : XD) : Nat := x.2.2.1
abbrev XD.r (x : XD) : Nat → Nat → Nat := x.2.2.2.1
abbrev XD.ks (x : XD) : Nat → Nat := x.2.2.2.2.1
abbrev XD.ns (x : XD) : Nat → Nat := x.2.2.2.2.2.1
abbrev XD.fv (x : XD) : List Value := x.2.2.2.2.2.2
def xpF (x : XD) (k : Nat) (v : Int32) : XD := (upd x.1 k v, x.2)
def xpA (x : XD) (k : Nat) (i v : Int32) : XD := (x.1, ug x.2.1 k i v, x.2.2)
def xfv (L : Nat → Nat) (p : Nat → Int32) (k : Nat) : Value := if xar k = true then .ref (L k) else .int (p k)
def xfs (L : Nat → Nat) (p : Nat → Int32) : List Value := (List.range 35).map (xfv L p)
/-- the number of the array class by the sheet's sort -/
def srt (s : Int32) : Nat := if s = 0 then 1 else if s = 1 then 2 else 0
def xcs (Γ : Gam) (L : Nat → Nat) (x : XD) (tm : Nat) (k : Nat) : Option va_E :=
  if xia k = true then some (.inl (if k = 16 then gA Γ 1 else gA Γ 0, xln k, .inl fun j => x.q k (nI j)))
  else if k = 35 then some (.inr (0, xfs L x.p))
  else if k = 0 then some (.inl (gA Γ 3, 7, rfA fun b => if b < x.nb then some (L (36 + b)) else none))
  else if k = 10 then some (.inr (1, x.fv))
  else if k = 12 then some (.inl (gA Γ 5, 6, rfA fun t => if t < tm then some (L (57 + t)) else none))
  else if k = 14 then some (.inl (gA Γ 6, 6, rfA fun i => some (x.ks i)))
  else if k = 15 then some (.inl (gA Γ 6, 6, rfA fun i => some (x.ns i)))
  else if k = 31 then some (.inl (gA Γ 7, 6, rfA fun i => some (L (43 + i))))
  else if k = 34 then some (.inl (gA Γ 8, 4, rfA fun s => some (L (49 + s))))
  else if 36 ≤ k ∧ k < 36 + x.nb ∧ k < 43 then some (.inr (8 + (x.q 37 (nI (k - 36))).toNatClampNeg, [.int (x.q 36 (nI (k - 36)))]))
  else if 49 ≤ k ∧ k < 53 then some (.inr (2, [if x.q 38 (nI (k - 49)) = -1 then .null else .ref (L (53 + (k - 49)))]))
  else if 53 ≤ k ∧ k < 57 ∧ ¬ x.q 38 (nI (k - 53)) = -1 then some (.inl (gA Γ (srt (x.q 38 (nI (k - 53)))), (x.q 39 (nI (k - 53))).toNatClampNeg, .inl fun j => x.q k (nI j)))
  else if 57 ≤ k ∧ k < 57 + tm ∧ k < 63 then some (.inl (gA Γ 4, 3, rfA fun w => some (x.r (k - 57) w)))
  else none
/-- a tree of a text: at a, with the code c, not deeper than n; o the object in whose names it speaks -/
def NT : Nat → PH → Nat → Nat → List Int32 → Prop
  | 0, _, _, _, _ => False
  | n + 1, h, o, a, c =>
    (∃ v, 0 ≤ v ∧ c = [v] ∧ h a = some (.inr (4, [.int v]))) ∨
    (∃ w, 0 ≤ w ∧ w ≤ 5 ∧ c = [-w - 1] ∧ h a = some (.inr (5, [.int w, .ref o]))) ∨
    (∃ b c1 m, c = c1 ++ [if m = 0 then -13 else -19] ∧ (m = 0 ∨ m = 1) ∧ h a = some (.inr (3, [.ref b, .int m])) ∧ NT n h o b c1) ∨
    (∃ b1 b2 c1 c2 sg op, c = c1 ++ c2 ++ [op] ∧ (sg, op) ∈ ([(124, -11), (38, -12), (60, -14), (61, -15), (43, -16), (45, -17), (42, -18)] : List (Int32 × Int32)) ∧ h a = some (.inr (6, [.int sg, .ref b1, .ref b2])) ∧ NT n h o b1 c1 ∧ NT n h o b2 c2)
/-- the cells of trees are kept -/
def KN (h h' : PH) : Prop := ∀ a ci fs, h a = some (.inr (ci, fs)) → 3 ≤ ci → ci ≤ 6 → h' a = some (.inr (ci, fs))
theorem NT.kept {h h' : PH} (k : KN h h') : ∀ (n o a : Nat) (c : List Int32), NT n h o a c → NT n h' o a c := by
  intro n
  induction n with
  | zero => intro o a c w; exact w
  | succ n ih =>
    intro o a c w
    rcases w with ⟨v, h0, h1, h2⟩ | ⟨v, h0, h3, h1, h2⟩ | ⟨b, c1, m, h1, h2, h3, h4⟩ | ⟨b1, b2, c1, c2, sg, op, h1, h2, h3, h4, h5⟩
    · exact Or.inl ⟨v, h0, h1, k _ _ _ h2 (by decide) (by decide)⟩
    · exact Or.inr (Or.inl ⟨v, h0, h3, h1, k _ _ _ h2 (by decide) (by decide)⟩)
    · exact Or.inr (Or.inr (Or.inl ⟨b, c1, m, h1, h2, k _ _ _ h3 (by decide) (by decide), ih _ _ _ h4⟩))
    · exact Or.inr (Or.inr (Or.inr ⟨b1, b2, c1, c2, sg, op, h1, h2, k _ _ _ h3 (by decide) (by decide), ih _ _ _ h4, ih _ _ _ h5⟩))
theorem NT.up : ∀ (n m o a : Nat) (c : List Int32) (h : PH), n ≤ m → NT n h o a c → NT m h o a c := by
  intro n
  induction n with
  | zero => intro m o a c h _ w; exact w.elim
  | succ n ih =>
    intro m o a c h hm w
    obtain ⟨m, rfl⟩ : ∃ m', m = m' + 1 := ⟨m - 1, by omega⟩
    rcases w with w | w | ⟨b, c1, m', h1, h2, h3, h4⟩ | ⟨b1, b2, c1, c2, sg, op, h1, h2, h3, h4, h5⟩
    · exact Or.inl w
    · exact Or.inr (Or.inl w)
    · exact Or.inr (Or.inr (Or.inl ⟨b, c1, m', h1, h2, h3, ih _ _ _ _ _ (by omega) h4⟩))
    · exact Or.inr (Or.inr (Or.inr ⟨b1, b2, c1, c2, sg, op, h1, h2, h3, ih _ _ _ _ _ (by omega) h4, ih _ _ _ _ _ (by omega) h5⟩))
theorem KN.refl (h : PH) : KN h h := fun _ _ _ q _ _ => q
theorem KN.trans {h h1 h2 : PH} (a : KN h h1) (b : KN h1 h2) : KN h h2 := fun x ci fs q q1 q2 => b _ _ _ (a _ _ _ q q1 q2) q1 q2
theorem KN.new {h : PH} {a : Nat} (e : va_E) (ha : h a = none) : KN h (pu h a e) := fun b ci fs q _ _ => by
  rw [pu_ne _ _ (fun z => by rw [z, ha] at q; cases q)]
  exact q
theorem KN.putA {h : PH} {a : Nat} (e : va_E) {e0 : ClassId × vp_A} (ha : h a = some (.inl e0)) : KN h (pu h a e) := fun b ci fs q _ _ => by
  rw [pu_ne _ _ (fun z => by rw [z, ha] at q; cases q)]
  exact q
theorem KN.putO {h : PH} {a ci0 : Nat} {fs0 : List Value} (e : va_E) (ha : h a = some (.inr (ci0, fs0))) (hc : ci0 < 3 ∨ 6 < ci0) : KN h (pu h a e) := fun b ci fs q q1 q2 => by
  rw [pu_ne _ _ (fun z => by rw [z, ha] at q; cases q; omega)]
  exact q
/-- the code is short, so the tree isn't deep -/
theorem NT.len : ∀ (n o a : Nat) (c : List Int32) (h : PH), NT n h o a c → 1 ≤ c.length ∧ NT c.length h o a c := by
  intro n
  induction n with
  | zero => intro o a c h w; exact w.elim
  | succ n ih =>
    intro o a c h w
    rcases w with ⟨v, h0, h1, h2⟩ | ⟨v, h0, h3, h1, h2⟩ | ⟨b, c1, m, h1, h2, h3, h4⟩ | ⟨b1, b2, c1, c2, sg, op, h1, h2, h3, h4, h5⟩
    · subst h1
      exact ⟨Nat.le_refl 1, Or.inl ⟨v, h0, rfl, h2⟩⟩
    · subst h1
      exact ⟨Nat.le_refl 1, Or.inr (Or.inl ⟨v, h0, h3, rfl, h2⟩)⟩
    · subst h1
      obtain ⟨l1, w1⟩ := ih _ _ _ _ h4
      rw [List.length_append]
      exact ⟨by simp, Or.inr (Or.inr (Or.inl ⟨b, c1, m, rfl, h2, h3, w1⟩))⟩
    · subst h1
      obtain ⟨l1, w1⟩ := ih _ _ _ _ h4
      obtain ⟨l2, w2⟩ := ih _ _ _ _ h5
      rw [List.length_append, List.length_append]
      exact ⟨by simp, Or.inr (Or.inr (Or.inr ⟨b1, b2, c1, c2, sg, op, rfl, h2, h3, NT.up _ _ _ _ _ _ (by omega) w1, NT.up _ _ _ _ _ _ (by omega) w2⟩))⟩
/-! what ties the class's numbers to the reference's -/
def xfd : Nat → Bool
  | 6 => true | 8 => true | 9 => true | 13 => true | 17 => true | 24 => true | 30 => true
  | _ => false
def xf : Nat → Nat
  | 6 => 0 | 8 => 10 | 9 => 14 | 13 => 17 | 17 => 15 | 24 => 18 | 30 => 33
  | _ => 0
/-- the row of boats' numbers: places outs paid states ins, numbers, kinds -/
def xg : Nat → Nat
  | 1 => 3 | 2 => 4 | 3 => 5 | 4 => 6 | 5 => 7 | 36 => 2 | 37 => 1
  | _ => 0
def xgd : Nat → Bool
  | 1 => true | 2 => true | 3 => true | 4 => true | 5 => true | 36 => true | 37 => true
  | _ => false
/-- the lake's numbers by their place -/
def xl : Nat → Nat
  | 0 => 8 | 1 => 9 | 2 => 11 | 3 => 12 | 4 => 13
  | _ => 0
/-- the image's rows -/
def xio : Nat → Int32
  | 43 => 0 | 44 => 1 | 45 => 2 | 46 => 4 | 47 => 5 | 48 => 3
  | _ => 0
def XRi (f : Nat → Int32) (g : Nat → Int32 → Int32) (q : Nat → Int32 → Int32) : Prop :=
  0 ≤ f 34 ∧ f 34 ≤ f 0 ∧ q 33 0 = f 34 ∧ q 33 1 = g 35 44 ∧ q 33 2 = g 35 48 ∧ q 33 3 = g 35 49 ∧ q 32 0 = g 35 42 ∧ q 32 1 = g 35 43 ∧ q 32 2 = g 35 45 ∧ q 32 3 = g 35 46 ∧ q 32 4 = g 35 47 ∧ ∀ k, 43 ≤ k → k ≤ 48 → ∀ b : Int32, 0 ≤ b → b < f 34 → q k b = g 35 (6 * b + xio k)
def XRs (g : Nat → Int32 → Int32) (q : Nat → Int32 → Int32) (s : Nat) : Prop :=
  q 38 (nI s) = g 36 (nI s) ∧ (¬ g 36 (nI s) = -1 → q 39 (nI s) = g 37 (nI s) ∧ ∀ i : Nat, nI i < g 37 (nI s) → i < 40 → q (53 + s) (nI i) = g 38 (40 * nI s + nI i))
def XR (f : Nat → Int32) (g : Nat → Int32 → Int32) (x : XD) : Prop :=
  (∀ k, xfd k = true → x.p k = f (xf k)) ∧ (∀ i, i < 5 → x.q 7 (nI i) = f (xl i)) ∧ (x.nb ≤ 7 ∧ ∀ b, Bo f b → b.toNatClampNeg < x.nb) ∧
  (∀ k, xgd k = true → ∀ b, Bo f b → x.q k b = g (xg k) b) ∧ (∀ k : Int32, 0 ≤ k → k < f 15 → x.q 16 k &&& 255 = g 16 k) ∧ (¬ f 33 = 0 → XRi f g x.q) ∧ ∀ s, s < 4 → XRs g x.q s
/-- the trees of the texts -/
def XTr (o : Nat) (T : TX) (x : XD) (tm : Nat) (h : PH) : Prop := tm ≤ 6 ∧ ∀ t, t < tm → ∀ w, w < 3 → NT 160 h o (x.r t w) (T (nI t) w)
def wKeys : List (List Int32) := [wPrice, wHears, wComes, wOr, wAnd, wNot]
def wNames : List (List Int32) := [wFar, wWind, wLate, wHid, wBoat, wMinute]
/-- the words' strings -/
def XK (Γ : Gam) (x : XD) : Prop := (∀ i, i < 6 → ∃ v, sLs Γ (x.ks i) v (wKeys.getD i [])) ∧ ∀ i, i < 6 → ∃ v, sLs Γ (x.ns i) v (wNames.getD i [])
def XI (Γ : Gam) (L : Nat → Nat) (f : Nat → Int32) (g : Nat → Int32 → Int32) (T : TX) (φ : XD → Prop) (h : PH) : Prop := ∃ x : XD, WD (xcs Γ L x (f 17).toNatClampNeg) L h ∧ XR f g x ∧ XTr (L 35) T x (f 17).toNatClampNeg h ∧ XK Γ x ∧ φ x
