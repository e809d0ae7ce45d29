/-! truth values, Math, the reference's world with what is of no account hidden (YI) -/
set_option maxRecDepth 100000
def b2i (p : Prop) [Decidable p] : Int32 := if p then 1 else 0
theorem b2i_t {p : Prop} [Decidable p] (h : p) : b2i p = 1 := if_pos h
theorem b2i_f {p : Prop} [Decidable p] (h : ¬ p) : b2i p = 0 := if_neg h
theorem b2i_0 {p : Prop} [Decidable p] : b2i p = 0 ↔ ¬ p := by
  unfold b2i
  split
  · rename_i h; simp [h]
  · rename_i h; simp [h]
theorem b2i_eq {p q : Prop} [Decidable p] [Decidable q] (h : p ↔ q) : b2i p = b2i q := by
  unfold b2i
  by_cases hp : p
  · rw [if_pos hp, if_pos (h.mp hp)]
  · rw [if_neg hp, if_neg (fun z => hp (h.mpr z))]
theorem b2i_n {p : Prop} [Decidable p] : narrow .boolean (.int (b2i p)) = .int (b2i p) := by
  unfold b2i
  split <;> rfl
def absI (x : Int32) : Int32 := if 0 ≤ x then x else 0 - x
def maxI (x y : Int32) : Int32 := if x < y then y else x
def minI (x y : Int32) : Int32 := if y < x then y else x
theorem vp_in_c {i : Int32} {n : Nat} (h : decide (0 ≤ i.toInt ∧ i.toInt < n) = true) : vp_in i n := vp_in_iff.mpr (of_decide_eq_true h)
section EB
variable {Γ : Gam} {A : Nat → Prop} {K : JC} {cc : ByteArray} {nL : Nat} {own : String} {hh : List (Nat × Nat × Nat × Nat)} {pc : Nat} {ls : List (Option Value)} {st : List Value} {P P' : PH → Prop} {cs ss d mc ms : Nat} {ret : Option FieldType} {Φ : Outcome → PH → Prop}
theorem j_if_eq_b {p : Prop} [Decidable p] (hK : Jok Γ A K cc nL own hh) {off : Int} {tgt : Nat} (hd : decode cc pc = .ok (.ifCond .eq off, 3)) (ht : (pc : Int) + off = (tgt : Int)) (k1 : ¬ p → J Γ A K tgt ls st P cs ss) (k2 : p → J Γ A K (pc + 3) ls st P cs ss) : J Γ A K pc ls (.int (b2i p) :: st) P cs ss := by
  refine j_if_eq hK hd ht (fun c => k1 (b2i_0.mp c)) (fun c => k2 ?_)
  by_cases h : p
  · exact h
  · exact absurd (b2i_f h) c
theorem j_if_ne_b {p : Prop} [Decidable p] (hK : Jok Γ A K cc nL own hh) {off : Int} {tgt : Nat} (hd : decode cc pc = .ok (.ifCond .ne off, 3)) (ht : (pc : Int) + off = (tgt : Int)) (k1 : p → J Γ A K tgt ls st P cs ss) (k2 : ¬ p → J Γ A K (pc + 3) ls st P cs ss) : J Γ A K pc ls (.int (b2i p) :: st) P cs ss := by
  refine j_if_ne hK hd ht (fun c => k1 ?_) (fun c => k2 ?_)
  · by_cases h : p
    · exact h
    · exact absurd (b2i_f h) c
  · exact b2i_0.mp c
theorem j_bret {v : Int32} (hK : Jok Γ A K cc nL own hh) (hQ : Kq Γ A K d mc ms (some .boolean) Φ) (hc : cs ≤ mc) (hs : ss ≤ ms) (hd : decode cc pc = .ok (.ireturn, 1)) (hq : ∀ h, P h → (v = 0 ∨ v = 1) ∧ Φ (.returned (some (.int v))) h) : J Γ A K pc ls [.int v] P cs ss := fun h H locs arr hP hR hL => by
  have hn : narrow .boolean (.int v) = .int v := by
    rcases (hq h hP).1 with rfl | rfl <;> rfl
  exact j_zret hK hQ hn hc hs hd (fun h hP => (hq h hP).2) h H locs arr hP hR hL
theorem j_mmax {x y : Int32} {idx : Nat} (hK : Jok Γ A K cc nL own hh) (hQ : Kq Γ A K d mc ms ret Φ) (hlink : Cond.methodLink own idx Lib.Math.max.name ∈ lw_all) (hd : decode cc pc = .ok (.invokestatic idx, 3)) (h1 : (st.map fun v => v.category).sum + 13 ≤ 60 * d) (h2 : cs ≤ mc) (h3 : ss ≤ ms) (kk : J Γ A K (pc + 3) ls (.int (maxI x y) :: st) P cs ss) : J Γ A K pc ls (.int y :: .int x :: st) P cs ss := fun h H locs arr hP hR hL =>
  va_mmax hK.x hK.b hL.1.symm hK.own (hK.ts _ hlink) (hK.ts _ q265) (hK.ts _ q80) (hK.ts _ q266) (by rw [hQ.1]; show 1 ≤ d; omega) (by rw [hQ.1]; exact h1) (by rw [hQ.1]; exact h2) (by rw [hQ.1]; exact h3) hd (kk h H locs arr hP hR hL)
theorem j_mmin {x y : Int32} {idx : Nat} (hK : Jok Γ A K cc nL own hh) (hQ : Kq Γ A K d mc ms ret Φ) (hlink : Cond.methodLink own idx Lib.Math.min.name ∈ lw_all) (hd : decode cc pc = .ok (.invokestatic idx, 3)) (h1 : (st.map fun v => v.category).sum + 13 ≤ 60 * d) (h2 : cs ≤ mc) (h3 : ss ≤ ms) (kk : J Γ A K (pc + 3) ls (.int (minI x y) :: st) P cs ss) : J Γ A K pc ls (.int y :: .int x :: st) P cs ss := fun h H locs arr hP hR hL =>
  va_mmin hK.x hK.b hL.1.symm hK.own (hK.ts _ hlink) (hK.ts _ q340) (hK.ts _ q80) (hK.ts _ q341) (by rw [hQ.1]; show 1 ≤ d; omega) (by rw [hQ.1]; exact h1) (by rw [hQ.1]; exact h2) (by rw [hQ.1]; exact h3) hd (kk h H locs arr hP hR hL)
theorem j_mabs {x : Int32} {idx : Nat} (hK : Jok Γ A K cc nL own hh) (hQ : Kq Γ A K d mc ms ret Φ) (hlink : Cond.methodLink own idx Lib.Math.abs.name ∈ lw_all) (hd : decode cc pc = .ok (.invokestatic idx, 3)) (h1 : (st.map fun v => v.category).sum + 13 ≤ 60 * d) (h2 : cs ≤ mc) (h3 : ss ≤ ms) (kk : J Γ A K (pc + 3) ls (.int (absI x) :: st) P cs ss) : J Γ A K pc ls (.int x :: st) P cs ss := fun h H locs arr hP hR hL =>
  va_mabs hK.x hK.b hL.1.symm hK.own (hK.ts _ hlink) (hK.ts _ q307) (hK.ts _ q80) (hK.ts _ q308) (by rw [hQ.1]; show 1 ≤ d; omega) (by rw [hQ.1]; exact h1) (by rw [hQ.1]; exact h2) (by rw [hQ.1]; exact h3) hd (kk h H locs arr hP hR hL)
end EB
/-! what of the reference's fields is of account; the texts are held apart (T) -/
def ess : Nat → Bool
  | 19 => false | 20 => false | 21 => false | 22 => false | 23 => false | 24 => false | 25 => false | 26 => false | 27 => false | 28 => false | 29 => false | 30 => false | 31 => false | 39 => false
  | _ => true
abbrev TX : Type := Int32 → Nat → List Int32
def Ess (f : Nat → Int32) (g : Nat → Int32 → Int32) (f' : Nat → Int32) (g' : Nat → Int32 → Int32) : Prop := ∀ k, ess k = true → f k = f' k ∧ ∀ j, g k j = g' k j
def YT (f : Nat → Int32) (g : Nat → Int32 → Int32) (T : TX) : Prop := ∀ t : Int32, 0 ≤ t → t < f 17 → ∃ n : Nat → Nat, (∀ w, w ≤ 3 → g 20 (4 * t + nI w) = nI (n w) ∧ n w ≤ 160) ∧ ∀ w, w < 3 → n w + (T t w).length = n (w + 1) ∧ ∀ i, i < (T t w).length → (T t w)[i]? = some (g 19 (170 * t + nI (n w + i)))
def YI (Γ : Gam) (L : Nat → Nat) (f : Nat → Int32) (g : Nat → Int32 → Int32) (T : TX) (h : PH) : Prop := ∃ f' g', YW Γ L f' g' h ∧ Ess f' g' f g ∧ YT f' g' T
section YI
variable {Γ : Gam} {A : Nat → Prop} {K : JC} {cc : ByteArray} {nL : Nat} {hh : List (Nat × Nat × Nat × Nat)} {pc : Nat} {ls : List (Option Value)} {st : List Value} {cs ss d mc ms : Nat} {ret : Option FieldType} {Φ : Outcome → PH → Prop} {L : Nat → Nat} {f : Nat → Int32} {g : Nat → Int32 → Int32} {T : TX}
theorem yi_getI {k idx : Nat} (hK : Jok Γ A K cc nL RX8 hh) (hk : k < 40) (hy : yar k = false) (he : ess k = true) (hlink : Cond.fieldLink RX8 idx RX8 (TX8 k).2.1 (TX8 k).2.2.1 ∈ lw_all) (h1 : (TX8 k).1 = RX8) (hd : decode cc pc = .ok (.getfield idx, 3)) (kk : J Γ A K (pc + 3) ls (.int (f k) :: st) (YI Γ L f g T) cs ss) : J Γ A K pc ls (.ref (L 40) :: st) (YI Γ L f g T) cs ss :=
  j_get hK (ci := 7) rfl in_X8 hk hlink (fun x h => by rw [h1] at h; exact h) hd (fun h ⟨f', g', w, e, t⟩ => ⟨_, w.1, by rw [yfs_get hk]; simp [yfv, hy]; exact (e k he).1⟩) kk
theorem yi_getR {k idx : Nat} (hK : Jok Γ A K cc nL RX8 hh) (hk : k < 40) (hy : yar k = true) (hlink : Cond.fieldLink RX8 idx RX8 (TX8 k).2.1 (TX8 k).2.2.1 ∈ lw_all) (h1 : (TX8 k).1 = RX8) (hd : decode cc pc = .ok (.getfield idx, 3)) (kk : J Γ A K (pc + 3) ls (.ref (L k) :: st) (YI Γ L f g T) cs ss) : J Γ A K pc ls (.ref (L 40) :: st) (YI Γ L f g T) cs ss :=
  j_get hK (ci := 7) rfl in_X8 hk hlink (fun x h => by rw [h1] at h; exact h) hd (fun h ⟨f', g', w, e, t⟩ => ⟨_, w.1, by rw [yfs_get hk]; simp [yfv, hy]⟩) kk
theorem Ess.putF {f' : Nat → Int32} {g' : Nat → Int32 → Int32} (e : Ess f' g' f g) (k : Nat) (v : Int32) : Ess (upd f' k v) g' (upd f k v) g := fun j hj => ⟨by unfold upd; split <;> first | rfl | exact (e j hj).1, (e j hj).2⟩
theorem Ess.putA {f' : Nat → Int32} {g' : Nat → Int32 → Int32} (e : Ess f' g' f g) (k : Nat) (i v : Int32) : Ess f' (ug g' k i v) f (ug g k i v) := fun j hj => ⟨(e j hj).1, fun x => by unfold ug; split <;> first | rfl | exact (e j hj).2 x⟩
theorem Ess.refl : Ess f g f g := fun _ _ => ⟨rfl, fun _ => rfl⟩
theorem Ess.trans {f' f'' : Nat → Int32} {g' g'' : Nat → Int32 → Int32} (a : Ess f g f' g') (b : Ess f' g' f'' g'') : Ess f g f'' g'' := fun k h => ⟨(a k h).1.trans (b k h).1, fun j => ((a k h).2 j).trans ((b k h).2 j)⟩
theorem Ess.symm {f' : Nat → Int32} {g' : Nat → Int32 → Int32} (a : Ess f g f' g') : Ess f' g' f g := fun k h => ⟨(a k h).1.symm, fun j => ((a k h).2 j).symm⟩
theorem YT.putF {T : TX} (t : YT f g T) {k : Nat} (hk : k ≠ 17) (v : Int32) : YT (upd f k v) g T := fun x h1 h2 => t x h1 (by unfold upd at h2; rwa [if_neg (fun z => hk z.symm)] at h2)
theorem YT.putA {T : TX} (t : YT f g T) {k : Nat} (h1 : k ≠ 19) (h2 : k ≠ 20) (i v : Int32) : YT f (ug g k i v) T := fun x a b => by
  obtain ⟨n, p, q⟩ := t x a b
  refine ⟨n, fun w hw => ?_, fun w hw => ⟨(q w hw).1, fun j hj => ?_⟩⟩
  · rw [ug_k g i v (fun z => h2 z.symm)]
    exact p w hw
  · rw [ug_k g i v (fun z => h1 z.symm)]
    exact (q w hw).2 j hj
theorem yi_putI {k idx : Nat} {v : Int32} (hK : Jok Γ A K cc nL RX8 hh) (hk : k < 40) (hy : yar k = false) (he : ess k = true) (h17 : k ≠ 17) (hlink : Cond.fieldLink RX8 idx RX8 (TX8 k).2.1 (TX8 k).2.2.1 ∈ lw_all) (h1 : (TX8 k).1 = RX8) (h2 : (TX8 k).2.2.2 = false) (hn : narrow (tyX8 k) (.int v) = .int v) (hf : fits (tyX8 k) (.int v) = true) (hd : decode cc pc = .ok (.putfield idx, 3)) (kk : J Γ A K (pc + 3) ls st (YI Γ L (upd f k v) g T) cs ss) : J Γ A K pc ls (.int v :: .ref (L 40) :: st) (YI Γ L f g T) cs ss :=
  j_put hK (ci := 7) rfl in_X8 tyX8_ok nmX8 hk hlink (fun x h => by rw [h1] at h; exact h) h2 hn hf hd (fun h ⟨f', g', w, e, t⟩ => ⟨_, w.1, by simp [yfs]; exact hk, ⟨_, _, w.putF hy, e.putF k v, t.putF h17 v⟩⟩) kk
theorem yi_ald {k : Nat} {i : Int32} (hK : Jok Γ A K cc nL RX8 hh) (hy : yar k = true) (he : ess k = true) (hb : vp_in i (ylen k)) (hd : decode cc pc = .ok (.iaload, 1)) (kk : J Γ A K (pc + 1) ls (.int (g k i) :: st) (YI Γ L f g T) cs ss) : J Γ A K pc ls (.int i :: .ref (L k) :: st) (YI Γ L f g T) cs ss :=
  j_iald hK hd (fun h ⟨f', g', w, e, t⟩ => ⟨_, _, w.2.1 k hy, hb, by rw [nI_cl (fun z => hb (Or.inl z))]; exact (e k he).2 i⟩) kk
theorem yi_ast {k : Nat} {i v : Int32} (hK : Jok Γ A K cc nL RX8 hh) (hy : yar k = true) (he : ess k = true) (h19 : k ≠ 19) (h20 : k ≠ 20) (hb : vp_in i (ylen k)) (hd : decode cc pc = .ok (.iastore, 1)) (kk : J Γ A K (pc + 1) ls st (YI Γ L f (ug g k i v) T) cs ss) : J Γ A K pc ls (.int v :: .int i :: .ref (L k) :: st) (YI Γ L f g T) cs ss :=
  j_iast hK hd (fun h ⟨f', g', w, e, t⟩ => ⟨_, _, _, w.2.1 k hy, hb, fun j hj => by
    show upd (fun j => g' k (nI j)) i.toNatClampNeg v j = ug g' k i v k (nI j)
    unfold upd ug
    by_cases e : j = i.toNatClampNeg
    · rw [if_pos e, if_pos ⟨rfl, (cl_eq hb (ylen_lt k) hj).mpr e⟩]
    · rw [if_neg e, if_neg (fun z => e ((cl_eq hb (ylen_lt k) hj).mp z.2))], ⟨_, _, w.putA hy, e.putA k i v, t.putA h19 h20 i v⟩⟩) kk
theorem yi_isC : IsC (YI Γ L f g T) (L 40) RX8 := fun h ⟨f', g', w, _, _⟩ => ⟨7, _, _, w.1, rfl, rfl⟩
end YI
