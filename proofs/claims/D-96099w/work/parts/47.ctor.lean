/-! the reference is made: constructors know their name; an object with some of its arrays -/
set_option maxRecDepth 100000
/-- a contract of a constructor out of the walk of its body -/
theorem Ct.ofI {Γ : Gam} {A : Nat → Prop} {y : MethodName} {ws : List Cond} {d mc ms : Nat} {as : List Value} {P : PH → Prop} {Φ : Outcome → PH → Prop} {cc : ByteArray} {nL : Nat} {ret : Option FieldType} {ls : List (Option Value)}
    (hy : plainName y.cls = true) (hw : ws = Cond.code y cc nL ret :: lw_all) (hls : entL nL as = ls) (hfit : (ents as).length ≤ nL)
    (body : ∀ K : JC, Jok Γ A K cc nL y.cls [] → Kq Γ A K d mc ms ret Φ → (kt K).name = y.name → J Γ A K 0 ls [] P 0 0) : Ct Γ A y ws d mc ms as P Φ := by
  intro hΓ
  refine MetFree.of_bodyS (code := cc) (maxLocals := nL) (ret := ret) hy ?_ ?_
  · intro args s m h hn
    obtain ⟨meth, c, h1, h2, h3, h4, h5, h6, -, -⟩ := Cond.code_spec hn (atoms_spec (ws := ws) h _ (by rw [hw]; exact List.mem_cons_self))
    exact ⟨meth, c, h1, h2, h3, h4, h5, h6⟩
  · intro p e s m args below meth c s₁ B hml hP _
    obtain ⟨rfl, hw0, hA, h, hPh, hR⟩ := hP
    have hts := atoms_spec (ws := ws) B.pre
    have hall : ∀ w ∈ lw_all, w.before as.toArray s = true := fun w h => hts w (by rw [hw]; exact List.mem_cons_of_mem _ h)
    have hown := findClass_of_methodNamed B.named
    have hno : c.exceptionTable.isEmpty = true := B.noHandlers (hts _ (by rw [hw]; exact List.mem_cons_self))
    have hno2 : c.exceptionTable.toList = tableOf [] := by
      have : c.exceptionTable = #[] := by simpa using hno
      rw [this]; rfl
    have w := body (p, e, rmD d mc ms, s, m, as.toArray, below, meth, c, fun t => ∃ o, t.status = .running ∧ Ended t below o ∧ CtQ Γ A Φ mc ms s o t)
      ⟨B.exec, B.bytes, hml, hown, hall, B.notSynchronized, hw0, hΓ, hA, hno2⟩ ⟨rfl, B.returns, rfl⟩ (name_of_methodNamed B.named B.method).1 h s.heap [] _ hPh
      ⟨hR, Nat.le_refl _, fun _ _ => rfl, (fun q hq => by cases hq), hA.2.2.2⟩ (by rw [← hls]; show Lr _ c.maxLocals _; rw [hml]; exact Lr.entry as hfit)
    have hh0 : s₁.heap = s.heap := by rw [B.state]; rfl
    obtain ⟨t, a1, o, b1, b2, b3⟩ := w s₁ hh0 (Stand.of_body B)
    refine ⟨t, o, ?_, b1, b2, b3⟩
    rw [lg_entry_eq]
    exact a1
/-- the reference with the arrays of the fields in s alone -/
def yfp (s : Nat → Bool) (L : Nat → Nat) (f : Nat → Int32) (k : Nat) : Value := if yar k = true then (if s k = true then .ref (L k) else .null) else .int (f k)
def yfps (s : Nat → Bool) (L : Nat → Nat) (f : Nat → Int32) : List Value := (List.range 40).map (yfp s L f)
def YWp (Γ : Gam) (s : Nat → Bool) (L : Nat → Nat) (f : Nat → Int32) (g : Nat → Int32 → Int32) (h : PH) : Prop :=
  h (L 40) = some (.inr (7, yfps s L f)) ∧ (∀ k, yar k = true → s k = true → h (L k) = some (.inl (gA Γ 0, ylen k, .inl (fun j => g k (nI j))))) ∧ ∀ k k', ((yar k = true ∧ s k = true) ∨ k = 40) → ((yar k' = true ∧ s k' = true) ∨ k' = 40) → L k = L k' → k = k'
def s1 (s : Nat → Bool) (k : Nat) : Nat → Bool := fun j => if j = k then true else s j
def L1 (L : Nat → Nat) (k a : Nat) : Nat → Nat := fun j => if j = k then a else L j
theorem yfps_set {s : Nat → Bool} {L : Nat → Nat} {f : Nat → Int32} {k a : Nat} (hk : yar k = true) (h40 : k < 40) : (yfps s L f).set k (.ref a) = yfps (s1 s k) (L1 L k a) f := by
  apply List.ext_getElem?
  intro j
  rw [List.getElem?_set]
  by_cases e : k = j
  · subst e
    rw [if_pos rfl, if_pos (by simp [yfps]; exact h40)]
    simp [yfps, h40, yfp, hk, s1, L1]
  · rw [if_neg e]
    by_cases h : j < 40
    · have e' : ¬ j = k := fun z => e z.symm
      simp [yfps, h, yfp, s1, L1, e']
    · rw [List.getElem?_eq_none (by simp [yfps]; omega), List.getElem?_eq_none (by simp [yfps]; omega)]
theorem YWp.add {Γ : Gam} {s : Nat → Bool} {L : Nat → Nat} {f : Nat → Int32} {g : Nat → Int32 → Int32} {h : PH} {k a : Nat} (w : YWp Γ s L f g h) (hk : yar k = true) (h40 : k < 40) (hs : s k = false) (ha : h a = none) (hg : ∀ j, g k (nI j) = 0) :
    YWp Γ (s1 s k) (L1 L k a) f g (pu (pu h a (.inl (gA Γ 0, ylen k, .inl (fun _ => 0)))) (L 40) (.inr (7, (yfps s L f).set k (.ref a)))) := by
  have hne : a ≠ L 40 := fun e => by rw [e, w.1] at ha; cases ha
  have hL40 : L1 L k a 40 = L 40 := if_neg (by omega)
  have hLk : L1 L k a k = a := if_pos rfl
  have hLj : ∀ j, j ≠ k → L1 L k a j = L j := fun j hj => if_neg hj
  have hsj : ∀ j, j ≠ k → s1 s k j = s j := fun j hj => if_neg hj
  refine ⟨by rw [hL40, pu_self, yfps_set hk h40], fun j hj hsj' => ?_, fun j j' hj hj' e => ?_⟩
  · by_cases e : j = k
    · subst e
      rw [hLk, pu_ne _ _ hne, pu_self]
      have : (fun _ : Nat => (0 : Int32)) = (fun i => g j (nI i)) := funext fun i => (hg i).symm
      rw [this]
    · rw [hsj j e] at hsj'
      have q := w.2.1 j hj hsj'
      have n1 : L j ≠ L 40 := fun z => by
        have := w.2.2 j 40 (Or.inl ⟨hj, hsj'⟩) (Or.inr rfl) z
        subst this
        cases hj
      rw [hLj j e, pu_ne _ _ n1, pu_ne _ _ (fun z => by rw [z, ha] at q; cases q)]
      exact q
  · have some_at : ∀ j, ((yar j = true ∧ s1 s k j = true) ∨ j = 40) → j ≠ k → h (L j) ≠ none := fun j hj hjk hn => by
      rcases hj with ⟨q1, q2⟩ | q
      · rw [hsj j hjk] at q2
        rw [w.2.1 j q1 q2] at hn
        cases hn
      · rw [q, w.1] at hn
        cases hn
    by_cases e1 : j = k
    · by_cases e2 : j' = k
      · rw [e1, e2]
      · subst e1
        rw [hLk, hLj j' e2] at e
        exact absurd (by rw [← e]; exact ha) (some_at j' hj' e2)
    · by_cases e2 : j' = k
      · subst e2
        rw [hLk, hLj j e1] at e
        exact absurd (by rw [e]; exact ha) (some_at j hj e1)
      · rw [hLj j e1, hLj j' e2] at e
        refine w.2.2 j j' ?_ ?_ e
        · rcases hj with ⟨q1, q2⟩ | q
          · exact Or.inl ⟨q1, by rw [hsj j e1] at q2; exact q2⟩
          · exact Or.inr q
        · rcases hj' with ⟨q1, q2⟩ | q
          · exact Or.inl ⟨q1, by rw [hsj j' e2] at q2; exact q2⟩
          · exact Or.inr q
theorem YWp.full {Γ : Gam} {s : Nat → Bool} {L : Nat → Nat} {f : Nat → Int32} {g : Nat → Int32 → Int32} {h : PH} (w : YWp Γ s L f g h) (hs : ∀ k, yar k = true → s k = true) : YW Γ L f g h := by
  refine ⟨?_, fun k hk => w.2.1 k hk (hs k hk), fun k k' hk hk' e => w.2.2 k k' (hk.imp (fun z => ⟨z, hs k z⟩) id) (hk'.imp (fun z => ⟨z, hs k' z⟩) id) e⟩
  rw [w.1]
  have : yfps s L f = yfs L f := by
    unfold yfps yfs
    apply List.map_congr_left
    intro k _
    unfold yfp yfv
    by_cases hk : yar k = true
    · rw [if_pos hk, if_pos hk, if_pos (hs k hk)]
    · rw [if_neg hk, if_neg hk]
  rw [this]
section YC
variable {Γ : Gam} {A : Nat → Prop} {K : JC} {cc : ByteArray} {nL : Nat} {hh : List (Nat × Nat × Nat × Nat)} {pc : Nat} {ls : List (Option Value)} {st : List Value} {cs ss d mc ms : Nat} {ret : Option FieldType} {Φ : Outcome → PH → Prop} {L : Nat → Nat} {f : Nat → Int32} {g : Nat → Int32 → Int32} {s : Nat → Bool}
theorem yc_new {k idx a0 : Nat} {n : Int32} (ha0 : L 40 = a0) (hK : Jok Γ A K cc nL RX8 hh) (hQ : Kq Γ A K d mc ms ret Φ) (hI : (kt K).name = "<init>") (hk : k < 40) (hy : yar k = true) (hs : s k = false) (hn : n = nI (ylen k)) (hlink : Cond.fieldLink RX8 idx RX8 (TX8 k).2.1 (TX8 k).2.2.1 ∈ lw_all) (h1 : (TX8 k).1 = RX8) (h2 : (TX8 k).2.2.2 = true) (h3 : tyX8 k = .array .int) (hd : decode cc pc = .ok (.newarray .int, 2)) (hd2 : decode cc (pc + 2) = .ok (.putfield idx, 3)) (hc1 : cs + 1 ≤ mc) (hc2 : ss + ylen k ≤ ms) (hg : ∀ j, g k (nI j) = 0)
    (kk : ∀ b, J Γ A K (pc + 5) ls st (YWp Γ (s1 s k) (L1 L k b) f g) (cs + 1) (ss + ylen k)) : J Γ A K pc ls (.int n :: .ref a0 :: st) (YWp Γ s L f g) cs ss := by
  subst ha0
  have hl : ylen k < 2 ^ 31 := ylen_lt k
  have hb : ylen k ≤ 1020 := by
    unfold ylen
    split <;> decide
  subst hn
  refine j_newa (atype := .int) (x := (ylen k, .inl (fun _ => 0))) (t := 0) (N := ylen k) hK hQ q712 rfl rfl (fun _ _ h => h) (fun cA => by rfl) (nI_pos hl) (nI_clamp hl) ?_ hc1 hc2 hd (fun b => ?_)
  · show ylen k * 4 ≤ 536870912
    omega
  · refine j_putF (pc := pc + 2) hK (ci := 7) rfl in_X8 tyX8_ok nmX8 hk hlink (fun x h => by rw [h1] at h; exact h) h2 hI h1 (by rw [h3]; rfl) (by rw [h3]; rfl) hd2 (fun h hh => ?_) (kk b)
    obtain ⟨h0, w, hn0, rfl⟩ := hh
    have hne : L 40 ≠ b := fun e => by rw [← e, w.1] at hn0; cases hn0
    exact ⟨_, by rw [pu_ne _ _ hne]; exact w.1, by simp [yfps]; exact hk, w.add hy hk hs hn0 hg⟩
end YC
