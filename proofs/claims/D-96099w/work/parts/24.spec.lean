/-! what the calls answer, over the state in the reference's layout (f fields, g arrays, T texts) -/
set_option maxRecDepth 100000
section ET
variable {Γ : Gam} {A : Nat → Prop} {K : JC} {cc : ByteArray} {nL : Nat} {own : String} {hh : List (Nat × Nat × Nat × Nat)} {pc : Nat} {ls : List (Option Value)} {st : List Value} {P P' : PH → Prop} {cs ss d mc ms : Nat} {ret : Option FieldType} {Φ : Outcome → PH → Prop}
theorem i32_toInt_ofInt {x : Int32} {z : Int} (h : x.toInt = z) : x = Int32.ofInt z := by
  rw [← h]
  exact (Int32.ofInt_toInt x).symm
def TabJ (x : Int32) (F : Int → Prop) : Int → List Int → Prop
  | _, [] => True
  | v, off :: t => (x = Int32.ofInt v → F off) ∧ TabJ x F (v + 1) t
theorem TabJ.at {x : Int32} {F : Int → Prop} : ∀ (l : List Int) (v : Int), TabJ x F v l → ∀ (i : Nat) (off : Int), l[i]? = some off → x = Int32.ofInt (v + i) → F off := by
  intro l
  induction l with
  | nil => intro v _ i off h; simp at h
  | cons a t ih =>
    intro v h i off ho hx
    match i, ho with
    | 0, ho =>
      simp at ho
      subst ho
      exact h.1 (by simpa using hx)
    | i + 1, ho =>
      refine ih (v + 1) h.2 i off (by simpa using ho) ?_
      rw [hx]
      congr 1
      push_cast
      omega
theorem j_table {dflt lo hi : Int} {offs : Array Int} {len : Nat} {x : Int32} (hK : Jok Γ A K cc nL own hh) (hd : decode cc pc = .ok (.tableswitch dflt lo hi offs, len)) (hp : (decide (0 ≤ (pc : Int) + dflt) && offs.all (fun off => decide (0 ≤ (pc : Int) + off))) = true) (hsz : (offs.size : Int) = hi - lo + 1)
    (kd : (∀ k : Int32, lo ≤ k.toInt → k.toInt ≤ hi → ¬ x = k) → J Γ A K ((pc : Int) + dflt).toNat ls st P cs ss) (ki : TabJ x (fun off => J Γ A K ((pc : Int) + off).toNat ls st P cs ss) lo offs.toList) : J Γ A K pc ls (.int x :: st) P cs ss := by
  have hp1 : 0 ≤ (pc : Int) + dflt := of_decide_eq_true (Bool.and_eq_true_iff.mp hp).1
  have hp2 : ∀ off, off ∈ offs → 0 ≤ (pc : Int) + off := fun off ho => of_decide_eq_true (Array.all_eq_true_iff_forall_mem.mp (Bool.and_eq_true_iff.mp hp).2 off ho)
  by_cases h : x.toInt < lo ∨ hi < x.toInt
  · exact j_tableOut hK hd h (Int.toNat_of_nonneg hp1).symm (kd (fun k h1 h2 e => by subst e; omega))
  · have h1 : ¬ x.toInt < lo := fun z => h (Or.inl z)
    have h2 : ¬ hi < x.toInt := fun z => h (Or.inr z)
    have hlt : (x.toInt - lo).toNat < offs.size := by omega
    have hi' : offs[(x.toInt - lo).toNat]? = some offs[(x.toInt - lo).toNat] := Array.getElem?_eq_getElem hlt
    refine j_tableIn hK hd h1 h2 hi' (Int.toNat_of_nonneg (hp2 _ (Array.getElem_mem hlt))).symm (TabJ.at _ _ ki _ _ (by rw [Array.getElem?_toList]; exact hi') (i32_toInt_ofInt ?_))
    omega
end ET
def farI (a b : Int32) : Int32 := absI (a / 8 - b / 8) + absI (a % 8 - b % 8)
section Spec
variable (f : Nat → Int32) (g : Nat → Int32 → Int32) (T : TX)
def rowsI (b : Int32) : Int32 := if g 1 b = 1 then 2 + f 9 / 2 - 1 else if g 1 b = 2 then 2 + f 9 / 2 + f 9 else if g 1 b = 3 then 2 + f 9 / 2 - 1 + g 2 b else if g 1 b = 4 then 2 + f 9 / 2 + f 9 else if g 1 b = 5 then 2 * (2 + f 9 / 2) else 2 + f 9 / 2
def hearI (b : Int32) : Int32 := if g 1 b = 1 then 12 - f 9 + g 2 b else if g 1 b = 2 then maxI 0 (12 - f 9 - 3) else if g 1 b = 3 then 12 - f 9 + g 2 b else if g 1 b = 4 then maxI 0 ((12 - f 9 - 3) / 2) else if g 1 b = 5 then (if g 2 b % 2 = 1 then 0 else 12 - f 9) else 12 - f 9
/-- the numbers that all calls keep to -/
def InvN : Prop := 0 ≤ f 0 ∧ f 0 ≤ 7 ∧ 0 ≤ f 8 ∧ f 8 ≤ 47 ∧ 0 ≤ f 9 ∧ f 9 ≤ 9 ∧ 0 ≤ f 10 ∧ f 10 ≤ 9999 ∧ 1 ≤ f 11 ∧ f 11 ≤ 6 ∧ 1 ≤ f 12 ∧ f 12 ≤ 9 ∧ 0 ≤ f 13 ∧ f 13 ≤ 20 ∧ 0 ≤ f 15 ∧ f 15 ≤ 160 ∧ 0 ≤ f 17 ∧ f 17 ≤ 6 ∧ 0 ≤ f 18 ∧ f 18 ≤ 5
def InvB (b : Int32) : Prop := 0 ≤ g 1 b ∧ g 1 b ≤ 5 ∧ 0 ≤ g 2 b ∧ g 2 b ≤ 9 ∧ 0 ≤ g 3 b ∧ g 3 b ≤ 47 ∧ 0 ≤ g 4 b ∧ g 4 b ≤ 999 ∧ 5 ≤ g 5 b ∧ g 5 b ≤ 240 ∧ 0 ≤ g 6 b ∧ g 6 b ≤ 2 ∧ -1 ≤ g 7 b ∧ g 7 b ≤ 99999
def Bo (b : Int32) : Prop := 0 ≤ b ∧ b < f 0
end Spec
theorem inb_of {b : Int32} {n : Nat} (h0 : 0 ≤ b) (h1 : b < nI n) (hn : n < 2 ^ 31) : vp_in b n := by
  refine vp_in_iff.mpr ⟨?_, ?_⟩
  · have := Int32.le_iff_toInt_le.mp h0
    simpa using this
  · have := Int32.lt_iff_toInt_lt.mp h1
    rwa [nI_toInt hn] at this
theorem Bo.in7 {f : Nat → Int32} {b : Int32} (h : Bo f b) (h7 : f 0 ≤ 7) : vp_in b 7 := by
  have h1 := h.2
  have e : nI 7 = (7 : Int32) := by decide
  exact inb_of h.1 (by rw [e]; grind) (by decide)
