/-! the class reads: what a good token is, and the world while it reads -/
set_option maxRecDepth 100000
section P73
variable (t : Nat → Int32) (n : Nat)
def kyI (p : Nat) : Int32 := if isW t n p wPrice then 0 else if isW t n p wHears then 1 else if isW t n p wComes then 2 else if isW t n p wOr then 3 else if isW t n p wAnd then 4 else if isW t n p wNot then 5 else -1
/-- a token that the class takes -/
def gd (p : Nat) : Prop := soP t n p = 0 ∨ soP t n p = 1 ∨ soP t n p = 3 ∨ (soP t n p = 2 ∧ (0 ≤ kyI t n p ∨ 0 < nmP t n p))
/-- the token in the class's fields -/
def TKf (p : Nat) (x : XD) : Prop := (soP t n p = 0 ∧ x.p 21 = 0) ∨ (soP t n p = 1 ∧ x.p 21 = 3 ∧ x.p 22 = vaP t n p) ∨ (soP t n p = 2 ∧ 0 ≤ kyI t n p ∧ x.p 21 = 1 ∧ x.p 22 = kyI t n p) ∨ (soP t n p = 2 ∧ kyI t n p = -1 ∧ 0 < nmP t n p ∧ x.p 21 = 2 ∧ x.p 22 = nmP t n p - 1) ∨ (soP t n p = 3 ∧ x.p 21 = 4 ∧ x.p 22 = vaP t n p)
def TB (at_ o : Nat) (x : XD) : Prop := x.p 18 = nI n ∧ (∀ k, k < n → x.q 16 (nI k) &&& 255 = t k) ∧ x.p 19 = nI at_ ∧ x.p 23 = nI o
def TK (p o : Nat) (x : XD) : Prop := TB t n (enP t n p) o x ∧ x.p 20 = nI (frP t n p) ∧ TKf t n p x
def BG (p : Nat) (x : XD) : Prop := x.p 20 = nI (frP t n p)
end P73
section P73b
variable {t : Nat → Int32} {n : Nat}
theorem ky_key {p k : Nat} (hk : k < 6) (h : isW t n p (wKeys.getD k [])) : kyI t n p = nI k := by
  have hw := h.2
  have h2 := h.1
  have e : ∀ w : List Int32, isW t n p w ↔ wKeys.getD k [] = w := fun w => ⟨fun z => hw.symm.trans z.2, fun z => ⟨h2, hw.trans z⟩⟩
  unfold kyI
  simp only [e]
  rcases n6 hk with rfl | rfl | rfl | rfl | rfl | rfl <;> decide
theorem ky_inv {p k : Nat} (hk : k < 6) (h : kyI t n p = nI k) : isW t n p (wKeys.getD k []) := by
  unfold kyI at h
  rcases n6 hk with rfl | rfl | rfl | rfl | rfl | rfl
  all_goals
    (by_cases h0 : isW t n p wPrice
     · first | exact h0 | (rw [if_pos h0] at h; exact absurd h (by decide))
     · rw [if_neg h0] at h
       by_cases h1 : isW t n p wHears
       · first | exact h1 | (rw [if_pos h1] at h; exact absurd h (by decide))
       · rw [if_neg h1] at h
         by_cases h2 : isW t n p wComes
         · first | exact h2 | (rw [if_pos h2] at h; exact absurd h (by decide))
         · rw [if_neg h2] at h
           by_cases h3 : isW t n p wOr
           · first | exact h3 | (rw [if_pos h3] at h; exact absurd h (by decide))
           · rw [if_neg h3] at h
             by_cases h4 : isW t n p wAnd
             · first | exact h4 | (rw [if_pos h4] at h; exact absurd h (by decide))
             · rw [if_neg h4] at h
               by_cases h5 : isW t n p wNot
               · first | exact h5 | (rw [if_pos h5] at h; exact absurd h (by decide))
               · rw [if_neg h5] at h
                 exact absurd h (by decide))
theorem ky_rng {p : Nat} : kyI t n p = -1 ∨ ∃ k, k < 6 ∧ kyI t n p = nI k := by
  unfold kyI
  split
  · exact Or.inr ⟨0, by decide, rfl⟩
  · split
    · exact Or.inr ⟨1, by decide, rfl⟩
    · split
      · exact Or.inr ⟨2, by decide, rfl⟩
      · split
        · exact Or.inr ⟨3, by decide, rfl⟩
        · split
          · exact Or.inr ⟨4, by decide, rfl⟩
          · split
            · exact Or.inr ⟨5, by decide, rfl⟩
            · exact Or.inl rfl
theorem ky_nn {p : Nat} : 0 ≤ kyI t n p ↔ ¬ kyI t n p = -1 := by
  rcases ky_rng (t := t) (n := n) (p := p) with h | ⟨k, hk, h⟩
  · rw [h]; decide
  · rw [h]
    exact ⟨fun _ => nI_m1 (by omega), fun _ => Int32.not_lt.mp (nI_pos (by omega))⟩
/-- a bad token is none of those that are asked for -/
theorem bad_w {p k : Nat} (hk : k < 6) (h : ¬ gd t n p) : ¬ isW t n p (wKeys.getD k []) := fun z => h (Or.inr (Or.inr (Or.inr ⟨z.1, Or.inl (by rw [ky_key hk z]; exact Int32.not_lt.mp (nI_pos (by omega)))⟩)))
theorem bad_s {p : Nat} {c : Int32} (h : ¬ gd t n p) : ¬ isS t n p c := fun z => h (Or.inr (Or.inr (Or.inl z.1)))
theorem bad_1 {p : Nat} (h : ¬ gd t n p) : ¬ soP t n p = 1 := fun z => h (Or.inr (Or.inl z))
theorem bad_0 {p : Nat} (h : ¬ gd t n p) : ¬ soP t n p = 0 := fun z => h (Or.inl z)
theorem bad_n {p : Nat} (h : ¬ gd t n p) : ¬ 0 < nmP t n p := fun z => by
  rcases nmP_c (t := t) (n := n) (p := p) with e | ⟨e, -⟩
  · rw [e] at z; exact absurd z (by decide)
  · exact h (Or.inr (Or.inr (Or.inr ⟨e, Or.inr z⟩)))
theorem bad_9 {m p o : Nat} {x : Nat × Option (List Int32)} (k : Nat) (h : ¬ gd t n p) (e : pr t n m (k + 9) p o = some x) : x = (p, none) := by
  cases m with
  | zero => cases e
  | succ m =>
    rw [pr_9, if_neg (bad_1 h), if_neg (bad_n h), if_neg (bad_s h), if_neg (fun z => bad_s h z.1)] at e
    exact (Option.some.inj e).symm
theorem sq_bad {r : PO} {k : Nat → PO} {p : Nat} {x : Nat × Option (List Int32)} (hr : ∀ y, r = some y → y = (p, none)) (h : sq r k = some x) : x = (p, none) := by
  rcases sq_c h with ⟨q, h1, h2⟩ | ⟨q, c, h1, -⟩
  · have := hr _ h1
    rw [h2]; exact this
  · have := hr _ h1
    cases this
theorem bad_7 {m p o : Nat} {x : Nat × Option (List Int32)} (h : ¬ gd t n p) (e : pr t n m 7 p o = some x) : x = (p, none) := by
  cases m with
  | zero => cases e
  | succ m => rw [pr_7] at e; exact sq_bad (fun y hy => bad_9 0 h hy) e
theorem bad_5 {m p o : Nat} {x : Nat × Option (List Int32)} (h : ¬ gd t n p) (e : pr t n m 5 p o = some x) : x = (p, none) := by
  cases m with
  | zero => cases e
  | succ m => rw [pr_5] at e; exact sq_bad (fun y hy => bad_7 h hy) e
theorem bad_4 {m p o : Nat} {x : Nat × Option (List Int32)} (h : ¬ gd t n p) (e : pr t n m 4 p o = some x) : x = (p, none) := by
  cases m with
  | zero => cases e
  | succ m => rw [pr_4, if_neg (show ¬ isW t n p wNot from bad_w (k := 5) (by decide) h)] at e; exact sq_bad (fun y hy => bad_5 h hy) e
theorem bad_2 {m p o : Nat} {x : Nat × Option (List Int32)} (h : ¬ gd t n p) (e : pr t n m 2 p o = some x) : x = (p, none) := by
  cases m with
  | zero => cases e
  | succ m => rw [pr_2] at e; exact sq_bad (fun y hy => bad_4 h hy) e
theorem bad_p0 {m p o : Nat} {x : Nat × Option (List Int32)} (h : ¬ gd t n p) (e : pr t n m 0 p o = some x) : x = (p, none) := by
  cases m with
  | zero => cases e
  | succ m => rw [pr_0] at e; exact sq_bad (fun y hy => bad_2 h hy) e
/-- the words that the class asks for, and the signs -/
theorem tk_key {p k : Nat} {x : XD} (hk : k < 6) (h : TKf t n p x) : (x.p 21 = 1 ∧ x.p 22 = nI k) ↔ isW t n p (wKeys.getD k []) := by
  constructor
  · rintro ⟨h1, h2⟩
    rcases h with ⟨a, b⟩ | ⟨a, b, c⟩ | ⟨a, b, c, d⟩ | ⟨a, b, c, d, e⟩ | ⟨a, b, c⟩
    · rw [b] at h1; exact absurd h1 (by decide)
    · rw [b] at h1; exact absurd h1 (by decide)
    · exact ky_inv hk (d.symm.trans h2)
    · rw [d] at h1; exact absurd h1 (by decide)
    · rw [b] at h1; exact absurd h1 (by decide)
  · intro z
    have ek := ky_key hk z
    have h2 := z.1
    rcases h with ⟨a, b⟩ | ⟨a, b, c⟩ | ⟨a, b, c, d⟩ | ⟨a, b, c, d, e⟩ | ⟨a, b, c⟩
    · rw [a] at h2; exact absurd h2 (by decide)
    · rw [a] at h2; exact absurd h2 (by decide)
    · exact ⟨c, d.trans ek⟩
    · rw [ek] at b; exact absurd b (nI_m1 (by omega))
    · rw [a] at h2; exact absurd h2 (by decide)
theorem tk_sign {p : Nat} {c : Int32} {x : XD} (h : TKf t n p x) : (x.p 21 = 4 ∧ x.p 22 = c) ↔ isS t n p c := by
  constructor
  · rintro ⟨h1, h2⟩
    rcases h with ⟨a, b⟩ | ⟨a, b, c⟩ | ⟨a, b, c, d⟩ | ⟨a, b, c, d, e⟩ | ⟨a, b, c⟩
    · rw [b] at h1; exact absurd h1 (by decide)
    · rw [b] at h1; exact absurd h1 (by decide)
    · rw [c] at h1; exact absurd h1 (by decide)
    · rw [d] at h1; exact absurd h1 (by decide)
    · exact ⟨a, c.symm.trans h2⟩
  · intro z
    have h2 := z.1
    rcases h with ⟨a, b⟩ | ⟨a, b, c⟩ | ⟨a, b, c, d⟩ | ⟨a, b, c, d, e⟩ | ⟨a, b, c⟩
    · rw [a] at h2; exact absurd h2 (by decide)
    · rw [a] at h2; exact absurd h2 (by decide)
    · rw [a] at h2; exact absurd h2 (by decide)
    · rw [a] at h2; exact absurd h2 (by decide)
    · exact ⟨b, c.trans z.2⟩
end P73b
/-! what else lies beside the world is kept -/
def Kp (h h' : PH) : Prop := ∀ a e, h a = some e → (∀ fs, e ≠ .inr (0, fs)) → h' a = some e
def StR (R : PH → Prop) : Prop := ∀ h h', Kp h h' → R h → R h'
theorem Kp.new {h : PH} {a : Nat} (e : va_E) (ha : h a = none) : Kp h (pu h a e) := fun b x q _ => by
  rw [pu_ne _ _ (fun z => by rw [z, ha] at q; cases q)]
  exact q
theorem Kp.putX {h : PH} {a : Nat} {fs : List Value} (e : va_E) (ha : h a = some (.inr (0, fs))) : Kp h (pu h a e) := fun b x q hx => by
  rw [pu_ne _ _ (fun z => by rw [z, ha] at q; cases q; exact hx _ rfl)]
  exact q
theorem Kp.kn {h h' : PH} (k : Kp h h') : KN h h' := fun a ci fs q h1 h2 => k a _ q (fun fs' z => by cases z; omega)
def NTe (h : PH) (o a : Nat) (c : List Int32) : Prop := ∃ n, NT n h o a c
theorem NTe.st {o a : Nat} {c : List Int32} : StR (fun h => NTe h o a c) := fun h h' k ⟨n, w⟩ => ⟨n, NT.kept k.kn _ _ _ _ w⟩
theorem StR.and {R S : PH → Prop} (a : StR R) (b : StR S) : StR (fun h => R h ∧ S h) := fun h h' k w => ⟨a h h' k w.1, b h h' k w.2⟩
theorem StR.t : StR (fun _ => True) := fun _ _ _ _ => trivial
def XQ (Γ : Gam) (L : Nat → Nat) (f : Nat → Int32) (g : Nat → Int32 → Int32) (T : TX) (φ : XD → Prop) (R : PH → Prop) (h : PH) : Prop := XI Γ L f g T φ h ∧ R h
section XQR
variable {Γ : Gam} {A : Nat → Prop} {K : JC} {cc : ByteArray} {nL : Nat} {own : String} {hh : List (Nat × Nat × Nat × Nat)} {pc : Nat} {ls : List (Option Value)} {st : List Value} {cs ss d mc ms : Nat} {ret : Option FieldType} {Φ : Outcome → PH → Prop} {L : Nat → Nat} {f : Nat → Int32} {g : Nat → Int32 → Int32} {T : TX} {φ φ' : XD → Prop} {R : PH → Prop} {P : PH → Prop}
theorem xq_put {k idx : Nat} {v : Int32} (hR : StR R) (hK : Jok Γ A K cc nL RX0 hh) (hx : xfd k = false) (hk : k < 35) (hy : xar k = false) (hφ : ∀ x, φ x → φ' (xpF x k v)) (hlink : Cond.fieldLink RX0 idx RX0 (TX0 k).2.1 (TX0 k).2.2.1 ∈ lw_all) (h1 : (TX0 k).1 = RX0) (h2 : (TX0 k).2.2.2 = false) (hn : narrow (tyX0 k) (.int v) = .int v) (hf : fits (tyX0 k) (.int v) = true) (hd : decode cc pc = .ok (.putfield idx, 3)) (kk : J Γ A K (pc + 3) ls st (XQ Γ L f g T φ' R) cs ss) : J Γ A K pc ls (.int v :: .ref (L 35) :: st) (XQ Γ L f g T φ R) cs ss :=
  j_put hK (ci := 0) rfl in_X0 tyX0_ok nmX0 hk hlink (fun x h => by rw [h1] at h; exact h) h2 hn hf hd (fun h ⟨⟨x, w, r, t, s, e⟩, hr⟩ => ⟨_, w.at xcs_o, by simp [xfs]; exact hk, by
    rw [xfs_set hy]
    refine ⟨⟨xpF x k v, w.put (by rw [xcs_o]; exact fun z => by cases z) xcs_o (fun j hj => xcs_pF hj), r.pH hx, t.kept (KN.putO _ (w.at xcs_o) (Or.inl (by decide))) rfl, s, hφ x e⟩, hR _ _ (Kp.putX _ (w.at xcs_o)) hr⟩⟩) kk
theorem xq_open (k : ∀ x, XR f g x → φ x → J Γ A K pc ls st (fun h => XI Γ L f g T (fun y => y = x) h ∧ R h) cs ss) : J Γ A K pc ls st (XQ Γ L f g T φ R) cs ss := fun h H locs arr ⟨⟨x, w, r, t, s, e⟩, hr⟩ hRp hL => k x r e h H locs arr ⟨⟨x, w, r, t, s, rfl⟩, hr⟩ hRp hL
theorem xq_bald {i v : Int32} (hK : Jok Γ A K cc nL own hh) (hw : ∀ h, P h → XI Γ L f g T φ h) (hb : vp_in i 160) (hv : ∀ x, φ x → x.q 16 i = v) (hd : decode cc pc = .ok (.baload, 1)) (kk : J Γ A K (pc + 1) ls (.int v :: st) P cs ss) : J Γ A K pc ls (.int i :: .ref (L 16) :: st) P cs ss :=
  j_bald hK hd (fun h hP => by obtain ⟨x, w, r, t, s, e⟩ := hw h hP; exact ⟨_, _, w.at (xcs_a rfl), hb, by rw [nI_cl (fun z => hb (Or.inl z))]; exact hv x e⟩) kk
/-- a new cell beside the world -/
theorem XI.fresh {h : PH} {a : Nat} (e : va_E) (w : XI Γ L f g T φ h) (ha : h a = none) : XI Γ L f g T φ (pu h a e) := by
  obtain ⟨x, w, r, t, s, q⟩ := w
  exact ⟨x, w.fresh e ha, r, t.kept (KN.new e ha) rfl, s, q⟩
theorem XQ.fresh {h : PH} {a : Nat} (hR : StR R) (e : va_E) (w : XQ Γ L f g T φ R h) (ha : h a = none) : XQ Γ L f g T φ R (pu h a e) := ⟨w.1.fresh e ha, hR _ _ (Kp.new e ha) w.2⟩
theorem xq_mono (h : ∀ x, φ x → φ' x) : ∀ h', XQ Γ L f g T φ R h' → XQ Γ L f g T φ' R h' := fun h' w => ⟨xi_mono h _ w.1, w.2⟩
/-- the fault, where it lies -/
theorem xq_fault : ∀ h, XI Γ L f g T φ h → ∃ fs, h (L 10) = some (.inr (1, fs)) := fun h ⟨x, w, _⟩ => ⟨_, w.at xcs_f⟩
end XQR
