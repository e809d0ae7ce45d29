/-! THE WORLD OF THE REFERENCE (Y): one object of 40 fields, twenty arrays of ints -/
set_option maxRecDepth 100000
/-- which fields hold arrays; their lengths -/
def yar : Nat → Bool
  | 1 => true | 2 => true | 3 => true | 4 => true | 5 => true | 6 => true | 7 => true | 16 => true | 19 => true | 20 => true | 27 => true | 28 => true | 30 => true | 31 => true | 32 => true | 35 => true | 36 => true | 37 => true | 38 => true | 39 => true
  | _ => false
def ylen : Nat → Nat
  | 1 => 7 | 2 => 7 | 3 => 7 | 4 => 7 | 5 => 7 | 6 => 7 | 7 => 7 | 16 => 160 | 19 => 1020 | 20 => 24 | 27 => 170 | 28 => 6 | 30 => 7 | 31 => 7 | 32 => 7 | 35 => 50 | 36 => 4 | 37 => 4 | 38 => 160 | 39 => 40
  | _ => 0
def yfv (L : Nat → Nat) (f : Nat → Int32) (k : Nat) : Value := if yar k = true then .ref (L k) else .int (f k)
def yfs (L : Nat → Nat) (f : Nat → Int32) : List Value := (List.range 40).map (yfv L f)
/-- an array's cell changed -/
def ug (g : Nat → Int32 → Int32) (k : Nat) (i v : Int32) : Nat → Int32 → Int32 := fun k' j => if k' = k ∧ j = i then v else g k' j
theorem ug_s (g : Nat → Int32 → Int32) (k : Nat) (i v : Int32) : ug g k i v k i = v := if_pos ⟨rfl, rfl⟩
theorem ug_k (g : Nat → Int32 → Int32) {k k' : Nat} (i v : Int32) (h : k' ≠ k) (j : Int32) : ug g k i v k' j = g k' j := if_neg (fun z => h z.1)
theorem ug_i (g : Nat → Int32 → Int32) (k : Nat) {i j : Int32} (v : Int32) (h : j ≠ i) : ug g k i v k j = g k j := if_neg (fun z => h z.2)
def YW (Γ : Gam) (L : Nat → Nat) (f : Nat → Int32) (g : Nat → Int32 → Int32) (h : PH) : Prop :=
  h (L 40) = some (.inr (7, yfs L f)) ∧ (∀ k, yar k = true → h (L k) = some (.inl (gA Γ 0, ylen k, .inl (fun j => g k (nI j))))) ∧ ∀ k k', (yar k = true ∨ k = 40) → (yar k' = true ∨ k' = 40) → L k = L k' → k = k'
theorem yfs_get {L : Nat → Nat} {f : Nat → Int32} {k : Nat} (hk : k < 40) : (yfs L f)[k]? = some (yfv L f k) := by
  simp [yfs, hk]
theorem yfs_set {L : Nat → Nat} {f : Nat → Int32} {k : Nat} {v : Int32} (hk : yar k = false) : (yfs L f).set k (.int v) = yfs L (upd f k v) := by
  apply List.ext_getElem?
  intro j
  rw [List.getElem?_set]
  by_cases e : k = j
  · subst e
    rw [if_pos rfl]
    by_cases h : k < 40
    · rw [if_pos (by simp [yfs]; exact h), yfs_get h]
      simp [yfv, hk, upd]
    · rw [if_neg (by simp [yfs]; omega), List.getElem?_eq_none (by simp [yfs]; omega)]
  · rw [if_neg e]
    by_cases h : j < 40
    · rw [yfs_get h, yfs_get h]
      unfold yfv upd
      rw [if_neg (show ¬ j = k from fun z => e z.symm)]
    · rw [List.getElem?_eq_none (by simp [yfs]; omega), List.getElem?_eq_none (by simp [yfs]; omega)]
theorem nI_cl {i : Int32} (h : ¬ i < 0) : nI i.toNatClampNeg = i := by
  obtain ⟨j, hj, rfl⟩ := nI_of h
  rw [nI_clamp hj]
theorem YW.obj {Γ : Gam} {L : Nat → Nat} {f : Nat → Int32} {g : Nat → Int32 → Int32} {h : PH} (w : YW Γ L f g h) : h (L 40) = some (.inr (7, yfs L f)) := w.1
theorem YW.putF {Γ : Gam} {L : Nat → Nat} {f : Nat → Int32} {g : Nat → Int32 → Int32} {h : PH} (w : YW Γ L f g h) {k : Nat} {v : Int32} (hk : yar k = false) : YW Γ L (upd f k v) g (pu h (L 40) (.inr (7, (yfs L f).set k (.int v)))) := by
  refine ⟨by rw [pu_self, yfs_set hk], fun j hj => ?_, w.2.2⟩
  rw [pu_ne _ _ (fun e => by
    have := w.2.2 j 40 (Or.inl hj) (Or.inr rfl) e
    subst this
    cases hj)]
  exact w.2.1 j hj
theorem cl_eq {i : Int32} {n j : Nat} (h : vp_in i n) (hn : n < 2 ^ 31) (hj : j < n) : (nI j = i) ↔ (j = i.toNatClampNeg) := by
  obtain ⟨k, hk, rfl⟩ := vp_in_of h hn
  rw [nI_clamp (by omega), nI_eq (by omega) (by omega)]
theorem ylen_lt (k : Nat) : ylen k < 2 ^ 31 := by
  unfold ylen
  split <;> decide
theorem YW.putA {Γ : Gam} {L : Nat → Nat} {f : Nat → Int32} {g : Nat → Int32 → Int32} {h : PH} (w : YW Γ L f g h) {k : Nat} {i v : Int32} (hk : yar k = true) : YW Γ L f (ug g k i v) (pu h (L k) (.inl (gA Γ 0, ylen k, .inl (fun j => ug g k i v k (nI j))))) := by
  refine ⟨?_, fun j hj => ?_, w.2.2⟩
  · rw [pu_ne _ _ (fun e => by
      have := w.2.2 40 k (Or.inr rfl) (Or.inl hk) e
      subst this
      cases hk)]
    exact w.1
  · by_cases e : j = k
    · subst e
      rw [pu_self]
    · rw [pu_ne _ _ (fun z => e (w.2.2 j k (Or.inl hj) (Or.inl hk) z)), w.2.1 j hj]
      have : (fun i' => g j (nI i')) = (fun i' => ug g k i v j (nI i')) := funext fun i' => (ug_k g i v e (nI i')).symm
      rw [this]
section YR
variable {Γ : Gam} {A : Nat → Prop} {K : JC} {cc : ByteArray} {nL : Nat} {hh : List (Nat × Nat × Nat × Nat)} {pc : Nat} {ls : List (Option Value)} {st : List Value} {cs ss d mc ms : Nat} {ret : Option FieldType} {Φ : Outcome → PH → Prop} {L : Nat → Nat} {f : Nat → Int32} {g : Nat → Int32 → Int32}
theorem y_getI {k idx : Nat} (hK : Jok Γ A K cc nL RX8 hh) (hk : k < 40) (hy : yar k = false) (hlink : Cond.fieldLink RX8 idx RX8 (TX8 k).2.1 (TX8 k).2.2.1 ∈ lw_all) (h1 : (TX8 k).1 = RX8) (hd : decode cc pc = .ok (.getfield idx, 3)) (kk : J Γ A K (pc + 3) ls (.int (f k) :: st) (YW Γ L f g) cs ss) : J Γ A K pc ls (.ref (L 40) :: st) (YW Γ L f g) cs ss :=
  j_get hK (ci := 7) rfl in_X8 hk hlink (fun x h => by rw [h1] at h; exact h) hd (fun h w => ⟨_, w.1, by rw [yfs_get hk]; simp [yfv, hy]⟩) kk
theorem y_getR {k idx : Nat} (hK : Jok Γ A K cc nL RX8 hh) (hk : k < 40) (hy : yar k = true) (hlink : Cond.fieldLink RX8 idx RX8 (TX8 k).2.1 (TX8 k).2.2.1 ∈ lw_all) (h1 : (TX8 k).1 = RX8) (hd : decode cc pc = .ok (.getfield idx, 3)) (kk : J Γ A K (pc + 3) ls (.ref (L k) :: st) (YW Γ L f g) cs ss) : J Γ A K pc ls (.ref (L 40) :: st) (YW Γ L f g) cs ss :=
  j_get hK (ci := 7) rfl in_X8 hk hlink (fun x h => by rw [h1] at h; exact h) hd (fun h w => ⟨_, w.1, by rw [yfs_get hk]; simp [yfv, hy]⟩) kk
theorem y_putI {k idx : Nat} {v : Int32} (hK : Jok Γ A K cc nL RX8 hh) (hk : k < 40) (hy : yar k = false) (hlink : Cond.fieldLink RX8 idx RX8 (TX8 k).2.1 (TX8 k).2.2.1 ∈ lw_all) (h1 : (TX8 k).1 = RX8) (h2 : (TX8 k).2.2.2 = false) (hn : narrow (tyX8 k) (.int v) = .int v) (hf : fits (tyX8 k) (.int v) = true) (hd : decode cc pc = .ok (.putfield idx, 3)) (kk : J Γ A K (pc + 3) ls st (YW Γ L (upd f k v) g) cs ss) : J Γ A K pc ls (.int v :: .ref (L 40) :: st) (YW Γ L f g) cs ss :=
  j_put hK (ci := 7) rfl in_X8 tyX8_ok nmX8 hk hlink (fun x h => by rw [h1] at h; exact h) h2 hn hf hd (fun h w => ⟨_, w.1, by simp [yfs]; exact hk, w.putF hy⟩) kk
theorem y_ald {k : Nat} {i : Int32} (hK : Jok Γ A K cc nL RX8 hh) (hy : yar k = true) (hb : vp_in i (ylen k)) (hd : decode cc pc = .ok (.iaload, 1)) (kk : J Γ A K (pc + 1) ls (.int (g k i) :: st) (YW Γ L f g) cs ss) : J Γ A K pc ls (.int i :: .ref (L k) :: st) (YW Γ L f g) cs ss :=
  j_iald hK hd (fun h w => ⟨_, _, w.2.1 k hy, hb, by rw [nI_cl (fun z => hb (Or.inl z))]⟩) kk
theorem y_ast {k : Nat} {i v : Int32} (hK : Jok Γ A K cc nL RX8 hh) (hy : yar k = true) (hb : vp_in i (ylen k)) (hd : decode cc pc = .ok (.iastore, 1)) (kk : J Γ A K (pc + 1) ls st (YW Γ L f (ug g k i v)) cs ss) : J Γ A K pc ls (.int v :: .int i :: .ref (L k) :: st) (YW Γ L f g) cs ss :=
  j_iast hK hd (fun h w => ⟨_, _, _, w.2.1 k hy, hb, fun j hj => by
    show upd (fun j => g k (nI j)) i.toNatClampNeg v j = ug g k i v k (nI j)
    unfold upd ug
    by_cases e : j = i.toNatClampNeg
    · rw [if_pos e, if_pos ⟨rfl, (cl_eq hb (ylen_lt k) hj).mpr e⟩]
    · rw [if_neg e, if_neg (fun z => e ((cl_eq hb (ylen_lt k) hj).mp z.2))], w.putA hy⟩) kk
theorem y_isC : IsC (YW Γ L f g) (L 40) RX8 := fun h w => ⟨7, _, _, w.1, rfl, rfl⟩
end YR
