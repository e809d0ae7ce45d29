/-! the class: a boat comes -/
set_option maxRecDepth 100000
section P71
variable {Γ : Gam} {A : Nat → Prop} {L : Nat → Nat} {f : Nat → Int32} {g : Nat → Int32 → Int32} {T : TX} {P : PH → Prop} {x : XD} {tm : Nat}
/-- the world with a new boat at the place b -/
def xnB (x : XD) (b k : Nat) (n : Int32) : XD := (x.1, ug (ug x.2.1 36 (nI b) n) 37 (nI b) (nI k), max x.2.2.1 (b + 1), x.2.2.2)
theorem xnB_q {b k m : Nat} {n : Int32} (h6 : m ≠ 36) (h7 : m ≠ 37) : (xnB x b k n).q m = x.q m := funext fun j => (ug_k _ _ _ h7 j).trans (ug_k _ _ _ h6 j)
theorem xnB_36 {b k : Nat} {n : Int32} {j : Int32} : (xnB x b k n).q 36 j = if j = nI b then n else x.q 36 j := by
  show ug (ug x.2.1 36 (nI b) n) 37 (nI b) (nI k) 36 j = _
  rw [ug_k _ _ _ (by decide)]
  unfold ug
  by_cases e : j = nI b
  · rw [if_pos ⟨rfl, e⟩, if_pos e]
  · rw [if_neg (fun z => e z.2), if_neg e]
theorem xnB_37 {b k : Nat} {n : Int32} {j : Int32} : (xnB x b k n).q 37 j = if j = nI b then nI k else x.q 37 j := by
  show ug (ug x.2.1 36 (nI b) n) 37 (nI b) (nI k) 37 j = _
  by_cases e : j = nI b
  · rw [if_pos e, e, ug_s]
  · rw [if_neg e, ug_i _ _ _ e, ug_k _ _ _ (by decide)]
theorem L1_s (k a : Nat) : L1 L k a k = a := if_pos rfl
theorem L1_o {k a j : Nat} (h : j ≠ k) : L1 L k a j = L j := if_neg h
theorem xcs_nB {b k a j : Nat} {n : Int32} (hb : b < 7) (hb2 : b ≤ x.nb) (hnb : x.nb ≤ 7) (ht : tm ≤ 6) (hj : j ≠ 36 + b) (hj0 : j ≠ 0) : xcs Γ (L1 L (36 + b) a) (xnB x b k n) tm j = xcs Γ L x tm j := by
  have hL : ∀ m, m < 36 ∨ 43 ≤ m → L1 L (36 + b) a m = L m := fun m hm => L1_o (by omega)
  have hfs : xfs (L1 L (36 + b) a) x.p = xfs L x.p := by
    unfold xfs
    apply List.map_congr_left
    intro m hm
    have := List.mem_range.mp hm
    unfold xfv
    rw [hL m (by omega)]
  have e31 : (fun i => some (L1 L (36 + b) a (43 + i))) = (fun i => some (L (43 + i))) := funext fun i => by rw [hL _ (by omega)]
  have e34 : (fun i => some (L1 L (36 + b) a (49 + i))) = (fun i => some (L (49 + i))) := funext fun i => by rw [hL _ (by omega)]
  have e12 : (fun t => if t < tm then some (L1 L (36 + b) a (57 + t)) else none) = (fun t => if t < tm then some (L (57 + t)) else none) := funext fun t => by rw [hL _ (by omega)]
  have ebo : 36 ≤ j ∧ j < 36 + (xnB x b k n).nb ∧ j < 43 ↔ 36 ≤ j ∧ j < 36 + x.nb ∧ j < 43 := by
    show 36 ≤ j ∧ j < 36 + max x.2.2.1 (b + 1) ∧ j < 43 ↔ 36 ≤ j ∧ j < 36 + x.2.2.1 ∧ j < 43
    have : x.nb = x.2.2.1 := rfl
    omega
  by_cases hr : 36 ≤ j ∧ j < 36 + x.nb ∧ j < 43
  · have hi : xia j = false := by
      obtain ⟨m, rfl⟩ : ∃ m, j = 36 + m := ⟨j - 36, by omega⟩
      rcases n7 (show m < 7 by omega) with rfl | rfl | rfl | rfl | rfl | rfl | rfl <;> rfl
    have hne : ¬ nI (j - 36) = nI b := fun z => by
      have := (nI_eq (by omega) (by omega)).mp z
      omega
    unfold xcs
    rw [if_neg (by rw [hi]; decide), if_neg (by omega), if_neg hj0, if_neg (by omega), if_neg (by omega), if_neg (by omega), if_neg (by omega), if_neg (by omega), if_neg (by omega), if_pos (ebo.mpr hr)]
    rw [if_neg (by rw [hi]; decide), if_neg (by omega), if_neg hj0, if_neg (by omega), if_neg (by omega), if_neg (by omega), if_neg (by omega), if_neg (by omega), if_neg (by omega), if_pos hr]
    rw [xnB_36, xnB_37, if_neg hne, if_neg hne]
  · by_cases h36 : j = 36 ∨ j = 37
    · have hi : xia j = false := by rcases h36 with rfl | rfl <;> rfl
      unfold xcs
      rw [if_neg (by rw [hi]; decide), if_neg (by omega), if_neg hj0, if_neg (by omega), if_neg (by omega), if_neg (by omega), if_neg (by omega), if_neg (by omega), if_neg (by omega), if_neg (fun z => hr (ebo.mp z)), if_neg (by omega), if_neg (by omega), if_neg (by omega)]
      rw [if_neg (by rw [hi]; decide), if_neg (by omega), if_neg hj0, if_neg (by omega), if_neg (by omega), if_neg (by omega), if_neg (by omega), if_neg (by omega), if_neg (by omega), if_neg hr, if_neg (by omega), if_neg (by omega), if_neg (by omega)]
    · unfold xcs
      rw [if_neg hj0, if_neg hj0, if_neg hr, if_neg (fun z => hr (ebo.mp z)), xnB_q (m := j) (by omega) (by omega), xnB_q (m := 38) (by decide) (by decide), xnB_q (m := 39) (by decide) (by decide)]
      show (if xia j = true then _ else if j = 35 then some (Sum.inr (0, xfs (L1 L (36 + b) a) x.p)) else _) = _
      rw [hfs]
      by_cases h49 : 49 ≤ j ∧ j < 53
      · rw [hL (53 + (j - 49)) (by omega)]
        rw [show (rfA fun t => if t < tm then some (L1 L (36 + b) a (57 + t)) else none) = (rfA fun t => if t < tm then some (L (57 + t)) else none) from congrArg rfA e12, show (rfA fun i => some (L1 L (36 + b) a (43 + i))) = (rfA fun i => some (L (43 + i))) from congrArg rfA e31, show (rfA fun i => some (L1 L (36 + b) a (49 + i))) = (rfA fun i => some (L (49 + i))) from congrArg rfA e34]
        rfl
      · rw [if_neg h49, if_neg h49, show (rfA fun t => if t < tm then some (L1 L (36 + b) a (57 + t)) else none) = (rfA fun t => if t < tm then some (L (57 + t)) else none) from congrArg rfA e12, show (rfA fun i => some (L1 L (36 + b) a (43 + i))) = (rfA fun i => some (L (43 + i))) from congrArg rfA e31, show (rfA fun i => some (L1 L (36 + b) a (49 + i))) = (rfA fun i => some (L (49 + i))) from congrArg rfA e34]
        rfl
theorem XC.boat {b k a : Nat} {n : Int32} {h : PH} (w : XC Γ L T tm x h) (ha : h a = none) (hb : b < 7) (hb2 : b ≤ x.nb) (hnb : x.nb ≤ 7) (hk : k ≤ 5) : XC Γ (L1 L (36 + b) a) T tm (xnB x b k n) (pu (pu h a (.inr (8 + k, [.int n]))) (L 0) (.inl (gA Γ 3, 7, rfA fun j => if j < (xnB x b k n).nb then some (L1 L (36 + b) a (36 + j)) else none))) := by
  obtain ⟨w1, w2, w3⟩ := w
  have h35 : L1 L (36 + b) a 35 = L 35 := L1_o (by omega)
  refine ⟨w1.swap (k0 := 36 + b) (k1 := 0) ha (by omega) (by rw [xcs_b]; exact fun z => by cases z) ?_ xcs_b (fun j h1 h2 => xcs_nB hb hb2 hnb w2.1 h1 h2), ?_, w3⟩
  · rw [xcs_bo (x := xnB x b k n) (show b < max x.2.2.1 (b + 1) by omega) hb, xnB_36, xnB_37, if_pos rfl, if_pos rfl, nI_clamp (by omega)]
  · rw [h35]
    refine XTr.kept (x := x) (KN.trans (KN.new _ ha) (KN.putA _ (e0 := (gA Γ 3, 7, rfA fun b => if b < x.nb then some (L (36 + b)) else none)) ?_)) rfl w2
    have h0 := w1.at xcs_b
    rw [pu_ne _ _ (fun z => by rw [z, ha] at h0; cases h0)]
    exact h0
end P71
theorem cls_bt {k : Nat} (hk : k ≤ 5) : ∃ r : vw_C, vwCl[8 + k]? = some r ∧ (r.1 = RX9 ∨ Cond.castable r.1 RX9 ∈ lw_tbl) := by
  rcases k6 hk with rfl | rfl | rfl | rfl | rfl | rfl
  · exact ⟨_, rfl, Or.inl rfl⟩
  · exact ⟨_, rfl, Or.inr q1558⟩
  · exact ⟨_, rfl, Or.inr q1559⟩
  · exact ⟨_, rfl, Or.inr q1560⟩
  · exact ⟨_, rfl, Or.inr q1561⟩
  · exact ⟨_, rfl, Or.inr q1562⟩
def boaX (x : XD) (b k : Nat) (v0 n c o p : Int32) : XD := xpF (xpA (xpA (xpA (xpA (xpA (xnB x b k n) 1 v0 c) 2 v0 o) 3 v0 p) 4 v0 0) 5 v0 (-1)) 6 (v0 + 1)
section P71b
variable {f : Nat → Int32} {g : Nat → Int32 → Int32} {x : XD}
def boaG (g : Nat → Int32 → Int32) (v0 kind n c o p : Int32) : Nat → Int32 → Int32 := ug (ug (ug (ug (ug (ug (ug g 1 v0 kind) 3 v0 c) 2 v0 n) 5 v0 p) 4 v0 o) 6 v0 0) 7 v0 (-1)
theorem boaG_o {v0 kind n c o p j : Int32} {k : Nat} (h : j ≠ v0 ∨ 7 < k) : boaG g v0 kind n c o p k j = g k j := by
  have key : ∀ (G : Nat → Int32 → Int32) (m : Nat) (v : Int32), m ≤ 7 → ug G m v0 v k j = G k j := fun G m v hm => by
    unfold ug
    rw [if_neg]
    rintro ⟨z1, z2⟩
    rcases h with q | q
    · exact q z2
    · omega
  unfold boaG
  rw [key _ _ _ (by decide), key _ _ _ (by decide), key _ _ _ (by decide), key _ _ _ (by decide), key _ _ _ (by decide), key _ _ _ (by decide), key _ _ _ (by decide)]
theorem boaG_s {v0 kind n c o p : Int32} : boaG g v0 kind n c o p 1 v0 = kind ∧ boaG g v0 kind n c o p 3 v0 = c ∧ boaG g v0 kind n c o p 2 v0 = n ∧ boaG g v0 kind n c o p 5 v0 = p ∧ boaG g v0 kind n c o p 4 v0 = o ∧ boaG g v0 kind n c o p 6 v0 = 0 ∧ boaG g v0 kind n c o p 7 v0 = -1 := by
  unfold boaG
  refine ⟨?_, ?_, ?_, ?_, ?_, ?_, ?_⟩ <;> repeat (first | exact ug_s _ _ _ _ | rw [ug_k _ _ _ (by decide)])
theorem boaX_o {b k m : Nat} {v0 n c o p : Int32} (h : 5 < m) (h6 : m ≠ 36) (h7 : m ≠ 37) : (boaX x b k v0 n c o p).q m = x.q m := by
  show (xpA (xpA (xpA (xpA (xpA (xnB x b k n) 1 v0 c) 2 v0 o) 3 v0 p) 4 v0 0) 5 v0 (-1)).q m = _
  rw [xpA_q (by omega), xpA_q (by omega), xpA_q (by omega), xpA_q (by omega), xpA_q (by omega), xnB_q h6 h7]
theorem boaX_s {b k : Nat} {v0 n c o p : Int32} (e : v0 = nI b) : (boaX x b k v0 n c o p).q 1 v0 = c ∧ (boaX x b k v0 n c o p).q 2 v0 = o ∧ (boaX x b k v0 n c o p).q 3 v0 = p ∧ (boaX x b k v0 n c o p).q 4 v0 = 0 ∧ (boaX x b k v0 n c o p).q 5 v0 = -1 ∧ (boaX x b k v0 n c o p).q 36 v0 = n ∧ (boaX x b k v0 n c o p).q 37 v0 = nI k := by
  have hq : (boaX x b k v0 n c o p).q = (xpA (xpA (xpA (xpA (xpA (xnB x b k n) 1 v0 c) 2 v0 o) 3 v0 p) 4 v0 0) 5 v0 (-1)).q := rfl
  rw [hq]
  refine ⟨?_, ?_, ?_, ?_, ?_, ?_, ?_⟩
  · rw [xpA_q (by decide), xpA_q (by decide), xpA_q (by decide), xpA_q (by decide), xpA_s]
  · rw [xpA_q (by decide), xpA_q (by decide), xpA_q (by decide), xpA_s]
  · rw [xpA_q (by decide), xpA_q (by decide), xpA_s]
  · rw [xpA_q (by decide), xpA_s]
  · rw [xpA_s]
  · rw [xpA_q (by decide), xpA_q (by decide), xpA_q (by decide), xpA_q (by decide), xpA_q (by decide), xnB_36, if_pos e]
  · rw [xpA_q (by decide), xpA_q (by decide), xpA_q (by decide), xpA_q (by decide), xpA_q (by decide), xnB_37, if_pos e]
theorem boaX_i {b k m : Nat} {v0 n c o p j : Int32} (e : v0 = nI b) (hj : j ≠ v0) : (boaX x b k v0 n c o p).q m j = x.q m j := by
  have key : ∀ (y : XD) (i : Nat) (v : Int32), (xpA y i v0 v).q m j = y.q m j := fun y i v => by
    show ug y.q i v0 v m j = _
    unfold ug
    rw [if_neg (fun z => hj z.2)]
  show (xpA (xpA (xpA (xpA (xpA (xnB x b k n) 1 v0 c) 2 v0 o) 3 v0 p) 4 v0 0) 5 v0 (-1)).q m j = _
  rw [key, key, key, key, key]
  by_cases h6 : m = 36
  · subst h6
    rw [xnB_36, if_neg (fun z => hj (z.trans e.symm))]
  · by_cases h7 : m = 37
    · subst h7
      rw [xnB_37, if_neg (fun z => hj (z.trans e.symm))]
    · rw [xnB_q h6 h7]
theorem XR.boat {b k : Nat} {n c o p : Int32} (r : XR f g x) (e0 : f 0 = nI b) (hb : b < 7) : XR (upd f 0 (f 0 + 1)) (boaG g (f 0) (nI k) n c o p) (boaX x b k (f 0) n c o p) := by
  obtain ⟨r1, r2, r3, r4, r5, r6, r7⟩ := r
  have hf : ∀ m, m ≠ 0 → upd f 0 (f 0 + 1) m = f m := fun m h => upd_o h
  have hf0 : upd f 0 (f 0 + 1) 0 = nI (b + 1) := by rw [upd_s, e0, nI_1]
  have hbo : ∀ j, Bo (upd f 0 (f 0 + 1)) j → j = f 0 ∨ Bo f j := fun j hj => by
    obtain ⟨i, hi, e⟩ := nI_of (Int32.not_lt.mpr hj.1)
    have h2 := hj.2
    rw [hf0, e] at h2
    have := (nI_ltI hi (by omega)).mp h2
    by_cases z : i = b
    · exact Or.inl (by rw [e, z, e0])
    · exact Or.inr ⟨hj.1, by rw [e, e0]; exact nI_lt (by omega) (by omega)⟩
  have hne : ∀ j, Bo f j → j ≠ f 0 := fun j hj z => by
    have := hj.2
    rw [z] at this
    exact (Int32.lt_irrefl this)
  obtain ⟨s1, s2, s3, s4, s5, s6, s7⟩ := boaX_s (x := x) (k := k) (n := n) (c := c) (o := o) (p := p) e0
  obtain ⟨t1, t3, t2, t5, t4, t6, t7⟩ := boaG_s (g := g) (v0 := f 0) (kind := nI k) (n := n) (c := c) (o := o) (p := p)
  refine ⟨fun m hm => ?_, fun i hi => ?_, ⟨?_, fun j h => ?_⟩, fun m hm j h => ?_, fun j h0 h1 => ?_, fun h => ?_, fun s hs => ?_⟩
  · show upd x.p 6 (f 0 + 1) m = _
    rcases xfd_in hm with rfl | rfl | rfl | rfl | rfl | rfl | rfl <;> first | exact r1 _ rfl | rfl
  · rw [boaX_o (by decide) (by decide) (by decide), r2 i hi, hf]
    rcases (show i = 0 ∨ i = 1 ∨ i = 2 ∨ i = 3 ∨ i = 4 by omega) with rfl | rfl | rfl | rfl | rfl <;> decide
  · show max x.2.2.1 (b + 1) ≤ 7
    have : x.2.2.1 ≤ 7 := r3.1
    omega
  · show j.toNatClampNeg < max x.2.2.1 (b + 1)
    rcases hbo j h with z | z
    · rw [z, e0, nI_clamp (by omega)]; omega
    · have : j.toNatClampNeg < x.2.2.1 := r3.2 j z
      omega
  · rcases hbo j h with z | z
    · subst z
      rcases xgd_in hm with rfl | rfl | rfl | rfl | rfl | rfl | rfl
      · rw [s1]; exact t3.symm
      · rw [s2]; exact t4.symm
      · rw [s3]; exact t5.symm
      · rw [s4]; exact t6.symm
      · rw [s5]; exact t7.symm
      · rw [s6]; exact t2.symm
      · rw [s7]; exact t1.symm
    · rw [boaX_i e0 (hne j z), boaG_o (Or.inl (hne j z))]
      exact r4 m hm j z
  · rw [boaX_o (by decide) (by decide) (by decide), boaG_o (Or.inr (by decide))]
    exact r5 j h0 (by rwa [hf 15 (by decide)] at h1)
  · rw [hf 33 (by decide)] at h
    have q := r6 h
    have hle : f 0 ≤ upd f 0 (f 0 + 1) 0 := by rw [hf0, e0]; exact nI_le (by omega) (by omega)
    unfold XRi at q ⊢
    rw [hf 34 (by decide), boaX_o (m := 33) (by decide) (by decide) (by decide), boaX_o (m := 32) (by decide) (by decide) (by decide)]
    have g35 : ∀ j, boaG g (f 0) (nI k) n c o p 35 j = g 35 j := fun j => boaG_o (Or.inr (by decide))
    simp only [g35]
    refine ⟨q.1, Int32.le_trans q.2.1 hle, q.2.2.1, q.2.2.2.1, q.2.2.2.2.1, q.2.2.2.2.2.1, q.2.2.2.2.2.2.1, q.2.2.2.2.2.2.2.1, q.2.2.2.2.2.2.2.2.1, q.2.2.2.2.2.2.2.2.2.1, q.2.2.2.2.2.2.2.2.2.2.1, fun j h1 h2 b h3 h4 => ?_⟩
    rw [boaX_o (by omega) (by omega) (by omega)]
    exact q.2.2.2.2.2.2.2.2.2.2.2 j h1 h2 b h3 h4
  · have q := r7 s hs
    unfold XRs at q ⊢
    have g36 : ∀ j, boaG g (f 0) (nI k) n c o p 36 j = g 36 j := fun j => boaG_o (Or.inr (by decide))
    have g37 : ∀ j, boaG g (f 0) (nI k) n c o p 37 j = g 37 j := fun j => boaG_o (Or.inr (by decide))
    have g38 : ∀ j, boaG g (f 0) (nI k) n c o p 38 j = g 38 j := fun j => boaG_o (Or.inr (by decide))
    rw [boaX_o (m := 38) (by decide) (by decide) (by decide), boaX_o (m := 39) (by decide) (by decide) (by decide), boaX_o (m := 53 + s) (by omega) (by omega) (by omega)]
    simp only [g36, g37, g38]
    exact q
/-! what is asked of a boat -/
theorem ob_what {w : Int32} : (0 ≤ w ∧ (0 ≤ w / 100 ∧ w / 100 ≤ 47) ∧ ¬ 9 < w % 100) ↔ (0 ≤ w ∧ w ≤ 4709) ∧ ¬ 9 < w % 100 := by
  constructor
  · rintro ⟨h0, h1, h2⟩
    refine ⟨⟨h0, ?_⟩, h2⟩
    obtain ⟨n, hn, e⟩ := nI_of (Int32.not_lt.mpr h0)
    rw [e, show (100 : Int32) = nI 100 by decide, nI_div hn (by decide)] at h1
    rw [e, show (100 : Int32) = nI 100 by decide, show (9 : Int32) = nI 9 by decide, nI_rem hn (by decide) (by decide), nI_ltI (by decide) (by omega)] at h2
    have h3 := h1.2
    rw [show (47 : Int32) = nI 47 by decide, nI_leI (by omega) (by decide)] at h3
    rw [e]
    exact nI_le (b := 4709) (by omega) (by decide)
  · rintro ⟨⟨h0, h1⟩, h2⟩
    obtain ⟨n, hn, e⟩ := nI_of2 (M := 4709) (n := 4709) (by decide) (Int32.not_lt.mpr h0) h1
    refine ⟨h0, ?_, h2⟩
    rw [e, show (100 : Int32) = nI 100 by decide, nI_div (by omega) (by decide)]
    exact ⟨Int32.not_lt.mp (nI_pos (by omega)), nI_le (b := 47) (by omega) (by decide)⟩
theorem ob_time {w : Int32} : (0 ≤ w ∧ (5 ≤ w / 1000 ∧ w / 1000 ≤ 240)) ↔ (5000 ≤ w ∧ w ≤ 240999) := by
  constructor
  · rintro ⟨h0, h1, h2⟩
    obtain ⟨n, hn, e⟩ := nI_of (Int32.not_lt.mpr h0)
    rw [e, show (1000 : Int32) = nI 1000 by decide, nI_div hn (by decide), show (5 : Int32) = nI 5 by decide, nI_leI (by decide) (by omega)] at h1
    rw [e, show (1000 : Int32) = nI 1000 by decide, nI_div hn (by decide), show (240 : Int32) = nI 240 by decide, nI_leI (by omega) (by decide)] at h2
    rw [e]
    exact ⟨nI_le (a := 5000) (by omega) hn, nI_le (b := 240999) (by omega) (by decide)⟩
  · rintro ⟨h1, h2⟩
    have h0 : 0 ≤ w := Int32.le_trans (by decide) h1
    obtain ⟨n, hn, e⟩ := nI_of2 (M := 240999) (n := 240999) (by decide) (Int32.not_lt.mpr h0) h2
    rw [e, show (5000 : Int32) = nI 5000 by decide, nI_leI (by decide) (by omega)] at h1
    refine ⟨h0, ?_⟩
    rw [e, show (1000 : Int32) = nI 1000 by decide, nI_div (by omega) (by decide)]
    exact ⟨nI_le (a := 5) (by omega) (by omega), nI_le (b := 240) (by omega) (by decide)⟩
theorem oBoat_bad {kind what time : Int32} (h : ¬ ((0 ≤ kind ∧ kind ≤ 5) ∧ (0 ≤ what ∧ (0 ≤ what / 100 ∧ what / 100 ≤ 47) ∧ ¬ 9 < what % 100) ∧ (0 ≤ time ∧ (5 ≤ time / 1000 ∧ time / 1000 ≤ 240)))) : oBoat f g kind what time = (-2, f, g) := by
  rw [ob_what, ob_time] at h
  unfold oBoat
  by_cases h1 : 0 ≤ kind ∧ kind ≤ 5
  · rw [if_neg (fun z => z h1)]
    by_cases h2 : 0 ≤ what ∧ what ≤ 4709
    · rw [if_neg (fun z => z h2)]
      by_cases h3 : 9 < what % 100
      · rw [if_pos h3]
      · rw [if_neg h3]
        by_cases h4 : 5000 ≤ time ∧ time ≤ 240999
        · exact absurd ⟨h1, ⟨h2, h3⟩, h4⟩ h
        · rw [if_pos h4]
    · rw [if_pos h2]
  · rw [if_pos h1]
theorem oBoat_ok {kind what time : Int32} (h1 : 0 ≤ kind ∧ kind ≤ 5) (h2 : 0 ≤ what ∧ (0 ≤ what / 100 ∧ what / 100 ≤ 47) ∧ ¬ 9 < what % 100) (h3 : 0 ≤ time ∧ (5 ≤ time / 1000 ∧ time / 1000 ≤ 240)) : oBoat f g kind what time = if f 0 = 7 then (-4, f, g) else (f 0, upd f 0 (f 0 + 1), boaG g (f 0) kind (what % 100) (what / 100) (time % 1000) (time / 1000)) := by
  rw [ob_what] at h2
  rw [ob_time] at h3
  unfold oBoat
  rw [if_neg (fun z => z h1), if_neg (fun z => z h2.1), if_neg h2.2, if_neg (fun z => z h3)]
  rfl
end P71b
theorem add_sub1 (v : Int32) : v + 1 - 1 = v := by grind
section X71
variable {Γ : Gam} {A : Nat → Prop} {L : Nat → Nat} {f : Nat → Int32} {g : Nat → Int32 → Int32} {T : TX} {P : PH → Prop}
def XOe (Γ : Gam) (a : Nat) (T : TX) (o : R3) : Int32 → PH → Prop := fun r h => ∃ L', L' 35 = a ∧ XO Γ L' T o r h
/-- the boats' names alone may be others -/
def XOb (Γ : Gam) (L : Nat → Nat) (T : TX) (o : R3) : Int32 → PH → Prop := fun r h => ∃ L', (∀ j, j < 36 ∨ 43 ≤ j → L' j = L j) ∧ XO Γ L' T o r h
theorem XOb.e {o : R3} {r : Int32} {h : PH} (w : XOb Γ L T o r h) : XOe Γ (L 35) T o r h := by
  obtain ⟨L', e, w⟩ := w
  exact ⟨L', e 35 (by omega), w⟩
theorem c_Xboat {kind what time : Int32} (hV : InvN f) : Ct Γ A yX0_boat wX0_boat 6 1 1 [.ref (L 35), .int kind, .int what, .int time] (XI Γ L f g T TT) (RI (XOb Γ L T (oBoat f g kind what time))) := by
  obtain ⟨b, hb7, e0⟩ := nI_of2 (x := f 0) (M := 7) (n := 7) (by decide) (Int32.not_lt.mpr hV.1) hV.2.1
  refine Ct.of (cc := cX0_boat) (nL := 5) (ret := (some .int)) (ls := [some (.ref (L 35)), some (.int kind), some (.int what), some (.int time), none]) rfl rfl rfl (nle rfl) ?_
  intro K hK hQ
  refine xi_open fun x r _ => ?_
  have rest : ∀ (k : Nat) (L' : Nat → Nat), (∀ j, j < 36 ∨ 43 ≤ j → L' j = L j) → b < 7 → oBoat f g kind what time = (f 0, upd f 0 (f 0 + 1), boaG g (f 0) (nI k) (what % 100) (what / 100) (time % 1000) (time / 1000)) → J Γ A K 101 [some (.ref (L 35)), some (.int kind), some (.int what), some (.int time), some (.int 1)] [] (XC Γ L' T (f 17).toNatClampNeg (xnB x b k (what % 100))) 1 1 := by
    intro k L' hLL hb ho
    have hL := hLL 35 (by omega)
    have hin : vp_in (f 0) 7 := by rw [e0]; exact vp_in_nI hb (by decide)
    have r' := r.boat (k := k) (n := what % 100) (c := what / 100) (o := time % 1000) (p := time / 1000) e0 hb
    rw [← hL]
    refine j_aload_n (pc := 101) hK dX0_boat_101 rfl ?_
    refine xc_getR (pc := 102) (k := 1) hK (fun _ w => w) (by decide) rfl q749 rfl dX0_boat_102 ?_
    refine j_aload_n (pc := 105) hK dX0_boat_105 rfl ?_
    refine xc_get (pc := 106) (k := 6) (v := f 0) hK (fun _ w => w) (by decide) rfl (r.1 6 rfl) q754 rfl dX0_boat_106 ?_
    refine j_iload_n (pc := 109) hK dX0_boat_109 rfl ?_
    refine j_bipush (pc := 110) (v := 100) hK dX0_boat_110 (by decide) ?_
    refine j_idiv (pc := 112) hK dX0_boat_112 (by decide) ?_
    refine xc_ast (pc := 113) (k := 1) hK rfl (by decide) hin dX0_boat_113 ?_
    refine j_aload_n (pc := 114) hK dX0_boat_114 rfl ?_
    refine xc_getR (pc := 115) (k := 2) hK (fun _ w => w) (by decide) rfl q750 rfl dX0_boat_115 ?_
    refine j_aload_n (pc := 118) hK dX0_boat_118 rfl ?_
    refine xc_get (pc := 119) (k := 6) (v := f 0) hK (fun _ w => w) (by decide) rfl (r.1 6 rfl) q754 rfl dX0_boat_119 ?_
    refine j_iload_n (pc := 122) hK dX0_boat_122 rfl ?_
    refine j_sipush (pc := 123) (v := 1000) hK dX0_boat_123 (by decide) ?_
    refine j_irem (pc := 126) hK dX0_boat_126 (by decide) ?_
    refine xc_ast (pc := 127) (k := 2) hK rfl (by decide) hin dX0_boat_127 ?_
    refine j_aload_n (pc := 128) hK dX0_boat_128 rfl ?_
    refine xc_getR (pc := 129) (k := 3) hK (fun _ w => w) (by decide) rfl q751 rfl dX0_boat_129 ?_
    refine j_aload_n (pc := 132) hK dX0_boat_132 rfl ?_
    refine xc_get (pc := 133) (k := 6) (v := f 0) hK (fun _ w => w) (by decide) rfl (r.1 6 rfl) q754 rfl dX0_boat_133 ?_
    refine j_iload_n (pc := 136) hK dX0_boat_136 rfl ?_
    refine j_sipush (pc := 137) (v := 1000) hK dX0_boat_137 (by decide) ?_
    refine j_idiv (pc := 140) hK dX0_boat_140 (by decide) ?_
    refine xc_ast (pc := 141) (k := 3) hK rfl (by decide) hin dX0_boat_141 ?_
    refine j_aload_n (pc := 142) hK dX0_boat_142 rfl ?_
    refine xc_getR (pc := 143) (k := 4) hK (fun _ w => w) (by decide) rfl q752 rfl dX0_boat_143 ?_
    refine j_aload_n (pc := 146) hK dX0_boat_146 rfl ?_
    refine xc_get (pc := 147) (k := 6) (v := f 0) hK (fun _ w => w) (by decide) rfl (r.1 6 rfl) q754 rfl dX0_boat_147 ?_
    refine j_iconst (pc := 150) (v := 0) hK dX0_boat_150 (by decide) ?_
    refine xc_ast (pc := 151) (k := 4) hK rfl (by decide) hin dX0_boat_151 ?_
    refine j_aload_n (pc := 152) hK dX0_boat_152 rfl ?_
    refine xc_getR (pc := 153) (k := 5) hK (fun _ w => w) (by decide) rfl q753 rfl dX0_boat_153 ?_
    refine j_aload_n (pc := 156) hK dX0_boat_156 rfl ?_
    refine xc_get (pc := 157) (k := 6) (v := f 0) hK (fun _ w => w) (by decide) rfl (r.1 6 rfl) q754 rfl dX0_boat_157 ?_
    refine j_iconst (pc := 160) (v := (-1)) hK dX0_boat_160 (by decide) ?_
    refine xc_ast (pc := 161) (k := 5) hK rfl (by decide) hin dX0_boat_161 ?_
    refine j_aload_n (pc := 162) hK dX0_boat_162 rfl ?_
    refine j_dup (pc := 163) hK dX0_boat_163 rfl ?_
    refine xc_get (pc := 164) (k := 6) (v := f 0) hK (fun _ w => w) (by decide) rfl (r.1 6 rfl) q754 rfl dX0_boat_164 ?_
    refine j_iconst (pc := 167) (v := 1) hK dX0_boat_167 (by decide) ?_
    refine j_iadd (pc := 168) hK dX0_boat_168 ?_
    refine xc_put (pc := 169) (k := 6) hK (by decide) rfl q754 rfl rfl rfl rfl dX0_boat_169 ?_
    refine j_aload_n (pc := 172) hK dX0_boat_172 rfl ?_
    refine xc_get (pc := 173) (k := 6) (v := f 0 + 1) hK (fun _ w => w) (by decide) rfl rfl q754 rfl dX0_boat_173 ?_
    refine j_iconst (pc := 176) (v := 1) hK dX0_boat_176 (by decide) ?_
    refine j_isub (pc := 177) hK dX0_boat_177 ?_
    exact j_iret (pc := 178) hK hQ (nle rfl) (nle rfl) dX0_boat_178 (fun h w => ⟨_, rfl, L', hLL, _, _, (by rw [ho, add_sub1]), xi_close (f := upd f 0 (f 0 + 1)) (n := (f 17).toNatClampNeg) w rfl r' trivial⟩)
  refine j_iload_n (pc := 0) hK dX0_boat_0 rfl ?_
  refine j_i2l (pc := 1) hK dX0_boat_1 ?_
  refine j_lconst (pc := 2) (v := 0) hK dX0_boat_2 (by decide) ?_
  refine j_ldc2 (pc := 3) hK q105 dX0_boat_3 ?_
  refine j_callS (pc := 6) hK hQ (c_Xin (l := 0) (u := 5) (by decide) (by decide)) cal_X0_in q106 dX0_boat_6 rfl rfl (nle rfl) (nle rfl) (nle rfl) (nle rfl) (kr_i fun r6 => ?_) kx_i
  refine J.pre fun e6 => ?_
  subst e6
  refine j_if_eq_b (pc := 9) (tgt := 61) hK dX0_boat_9 (by decide) (fun c9 => ?_) (fun c9 => ?_)
  · have hbad : ¬ ((0 ≤ kind ∧ kind ≤ 5) ∧ (0 ≤ what ∧ (0 ≤ what / 100 ∧ what / 100 ≤ 47) ∧ ¬ 9 < what % 100) ∧ (0 ≤ time ∧ (5 ≤ time / 1000 ∧ time / 1000 ≤ 240))) := by
      rintro ⟨z1, z2, z3⟩
      first | exact c9 z1 | exact absurd c13 (Int32.not_lt.mpr z2.1) | exact c23 z2.2.1 | exact z2.2.2 c32 | exact absurd c36 (Int32.not_lt.mpr z3.1) | exact c54 z3.2
    refine j_iconst (pc := 61) (v := 0) hK dX0_boat_61 (by decide) ?_
    refine j_ist4 (pc := 62) hK dX0_boat_62 (by decide) rfl ?_
    refine j_iload (pc := 64) hK dX0_boat_64 rfl ?_
    refine j_if_ne (pc := 66) (tgt := 72) hK dX0_boat_66 (by decide) (fun c66 => absurd (by decide) c66) (fun c66 => ?_)
    refine j_bipush (pc := 69) (v := (-2)) hK dX0_boat_69 (by decide) ?_
    exact j_iret (pc := 71) hK hQ (nle rfl) (nle rfl) dX0_boat_71 (fun h w => ⟨_, rfl, L, fun _ _ => rfl, _, _, oBoat_bad hbad, xi_close w rfl r trivial⟩)
  · refine j_iload_n (pc := 12) hK dX0_boat_12 rfl ?_
    refine j_if_lt (pc := 13) (tgt := 61) hK dX0_boat_13 (by decide) (fun c13 => ?_) (fun c13 => ?_)
    · have hbad : ¬ ((0 ≤ kind ∧ kind ≤ 5) ∧ (0 ≤ what ∧ (0 ≤ what / 100 ∧ what / 100 ≤ 47) ∧ ¬ 9 < what % 100) ∧ (0 ≤ time ∧ (5 ≤ time / 1000 ∧ time / 1000 ≤ 240))) := by
        rintro ⟨z1, z2, z3⟩
        first | exact c9 z1 | exact absurd c13 (Int32.not_lt.mpr z2.1) | exact c23 z2.2.1 | exact z2.2.2 c32 | exact absurd c36 (Int32.not_lt.mpr z3.1) | exact c54 z3.2
      refine j_iconst (pc := 61) (v := 0) hK dX0_boat_61 (by decide) ?_
      refine j_ist4 (pc := 62) hK dX0_boat_62 (by decide) rfl ?_
      refine j_iload (pc := 64) hK dX0_boat_64 rfl ?_
      refine j_if_ne (pc := 66) (tgt := 72) hK dX0_boat_66 (by decide) (fun c66 => absurd (by decide) c66) (fun c66 => ?_)
      refine j_bipush (pc := 69) (v := (-2)) hK dX0_boat_69 (by decide) ?_
      exact j_iret (pc := 71) hK hQ (nle rfl) (nle rfl) dX0_boat_71 (fun h w => ⟨_, rfl, L, fun _ _ => rfl, _, _, oBoat_bad hbad, xi_close w rfl r trivial⟩)
    · refine j_iload_n (pc := 16) hK dX0_boat_16 rfl ?_
      refine j_bipush (pc := 17) (v := 100) hK dX0_boat_17 (by decide) ?_
      refine j_idiv (pc := 19) hK dX0_boat_19 (by decide) ?_
      refine j_callS (pc := 20) hK hQ (c_XisCell _) cal_X0_isCell q109 dX0_boat_20 rfl rfl (nle rfl) (nle rfl) (nle rfl) (nle rfl) (kr_i fun r20 => ?_) kx_i
      refine J.pre fun e20 => ?_
      subst e20
      refine j_if_eq_b (pc := 23) (tgt := 61) hK dX0_boat_23 (by decide) (fun c23 => ?_) (fun c23 => ?_)
      · have hbad : ¬ ((0 ≤ kind ∧ kind ≤ 5) ∧ (0 ≤ what ∧ (0 ≤ what / 100 ∧ what / 100 ≤ 47) ∧ ¬ 9 < what % 100) ∧ (0 ≤ time ∧ (5 ≤ time / 1000 ∧ time / 1000 ≤ 240))) := by
          rintro ⟨z1, z2, z3⟩
          first | exact c9 z1 | exact absurd c13 (Int32.not_lt.mpr z2.1) | exact c23 z2.2.1 | exact z2.2.2 c32 | exact absurd c36 (Int32.not_lt.mpr z3.1) | exact c54 z3.2
        refine j_iconst (pc := 61) (v := 0) hK dX0_boat_61 (by decide) ?_
        refine j_ist4 (pc := 62) hK dX0_boat_62 (by decide) rfl ?_
        refine j_iload (pc := 64) hK dX0_boat_64 rfl ?_
        refine j_if_ne (pc := 66) (tgt := 72) hK dX0_boat_66 (by decide) (fun c66 => absurd (by decide) c66) (fun c66 => ?_)
        refine j_bipush (pc := 69) (v := (-2)) hK dX0_boat_69 (by decide) ?_
        exact j_iret (pc := 71) hK hQ (nle rfl) (nle rfl) dX0_boat_71 (fun h w => ⟨_, rfl, L, fun _ _ => rfl, _, _, oBoat_bad hbad, xi_close w rfl r trivial⟩)
      · refine j_iload_n (pc := 26) hK dX0_boat_26 rfl ?_
        refine j_bipush (pc := 27) (v := 100) hK dX0_boat_27 (by decide) ?_
        refine j_irem (pc := 29) hK dX0_boat_29 (by decide) ?_
        refine j_bipush (pc := 30) (v := 9) hK dX0_boat_30 (by decide) ?_
        refine j_icmp_gt (pc := 32) (tgt := 61) hK dX0_boat_32 (by decide) (fun c32 => ?_) (fun c32 => ?_)
        · have hbad : ¬ ((0 ≤ kind ∧ kind ≤ 5) ∧ (0 ≤ what ∧ (0 ≤ what / 100 ∧ what / 100 ≤ 47) ∧ ¬ 9 < what % 100) ∧ (0 ≤ time ∧ (5 ≤ time / 1000 ∧ time / 1000 ≤ 240))) := by
            rintro ⟨z1, z2, z3⟩
            first | exact c9 z1 | exact absurd c13 (Int32.not_lt.mpr z2.1) | exact c23 z2.2.1 | exact z2.2.2 c32 | exact absurd c36 (Int32.not_lt.mpr z3.1) | exact c54 z3.2
          refine j_iconst (pc := 61) (v := 0) hK dX0_boat_61 (by decide) ?_
          refine j_ist4 (pc := 62) hK dX0_boat_62 (by decide) rfl ?_
          refine j_iload (pc := 64) hK dX0_boat_64 rfl ?_
          refine j_if_ne (pc := 66) (tgt := 72) hK dX0_boat_66 (by decide) (fun c66 => absurd (by decide) c66) (fun c66 => ?_)
          refine j_bipush (pc := 69) (v := (-2)) hK dX0_boat_69 (by decide) ?_
          exact j_iret (pc := 71) hK hQ (nle rfl) (nle rfl) dX0_boat_71 (fun h w => ⟨_, rfl, L, fun _ _ => rfl, _, _, oBoat_bad hbad, xi_close w rfl r trivial⟩)
        · refine j_iload_n (pc := 35) hK dX0_boat_35 rfl ?_
          refine j_if_lt (pc := 36) (tgt := 61) hK dX0_boat_36 (by decide) (fun c36 => ?_) (fun c36 => ?_)
          · have hbad : ¬ ((0 ≤ kind ∧ kind ≤ 5) ∧ (0 ≤ what ∧ (0 ≤ what / 100 ∧ what / 100 ≤ 47) ∧ ¬ 9 < what % 100) ∧ (0 ≤ time ∧ (5 ≤ time / 1000 ∧ time / 1000 ≤ 240))) := by
              rintro ⟨z1, z2, z3⟩
              first | exact c9 z1 | exact absurd c13 (Int32.not_lt.mpr z2.1) | exact c23 z2.2.1 | exact z2.2.2 c32 | exact absurd c36 (Int32.not_lt.mpr z3.1) | exact c54 z3.2
            refine j_iconst (pc := 61) (v := 0) hK dX0_boat_61 (by decide) ?_
            refine j_ist4 (pc := 62) hK dX0_boat_62 (by decide) rfl ?_
            refine j_iload (pc := 64) hK dX0_boat_64 rfl ?_
            refine j_if_ne (pc := 66) (tgt := 72) hK dX0_boat_66 (by decide) (fun c66 => absurd (by decide) c66) (fun c66 => ?_)
            refine j_bipush (pc := 69) (v := (-2)) hK dX0_boat_69 (by decide) ?_
            exact j_iret (pc := 71) hK hQ (nle rfl) (nle rfl) dX0_boat_71 (fun h w => ⟨_, rfl, L, fun _ _ => rfl, _, _, oBoat_bad hbad, xi_close w rfl r trivial⟩)
          · refine j_iload_n (pc := 39) hK dX0_boat_39 rfl ?_
            refine j_sipush (pc := 40) (v := 1000) hK dX0_boat_40 (by decide) ?_
            refine j_idiv (pc := 43) hK dX0_boat_43 (by decide) ?_
            refine j_i2l (pc := 44) hK dX0_boat_44 ?_
            refine j_ldc2 (pc := 45) hK q105 dX0_boat_45 ?_
            refine j_ldc2 (pc := 48) hK q113 dX0_boat_48 ?_
            refine j_callS (pc := 51) hK hQ (c_Xin (l := 5) (u := 240) (by decide) (by decide)) cal_X0_in q106 dX0_boat_51 rfl rfl (nle rfl) (nle rfl) (nle rfl) (nle rfl) (kr_i fun r51 => ?_) kx_i
            refine J.pre fun e51 => ?_
            subst e51
            refine j_if_eq_b (pc := 54) (tgt := 61) hK dX0_boat_54 (by decide) (fun c54 => ?_) (fun c54 => ?_)
            · have hbad : ¬ ((0 ≤ kind ∧ kind ≤ 5) ∧ (0 ≤ what ∧ (0 ≤ what / 100 ∧ what / 100 ≤ 47) ∧ ¬ 9 < what % 100) ∧ (0 ≤ time ∧ (5 ≤ time / 1000 ∧ time / 1000 ≤ 240))) := by
                rintro ⟨z1, z2, z3⟩
                first | exact c9 z1 | exact absurd c13 (Int32.not_lt.mpr z2.1) | exact c23 z2.2.1 | exact z2.2.2 c32 | exact absurd c36 (Int32.not_lt.mpr z3.1) | exact c54 z3.2
              refine j_iconst (pc := 61) (v := 0) hK dX0_boat_61 (by decide) ?_
              refine j_ist4 (pc := 62) hK dX0_boat_62 (by decide) rfl ?_
              refine j_iload (pc := 64) hK dX0_boat_64 rfl ?_
              refine j_if_ne (pc := 66) (tgt := 72) hK dX0_boat_66 (by decide) (fun c66 => absurd (by decide) c66) (fun c66 => ?_)
              refine j_bipush (pc := 69) (v := (-2)) hK dX0_boat_69 (by decide) ?_
              exact j_iret (pc := 71) hK hQ (nle rfl) (nle rfl) dX0_boat_71 (fun h w => ⟨_, rfl, L, fun _ _ => rfl, _, _, oBoat_bad hbad, xi_close w rfl r trivial⟩)
            · refine j_iconst (pc := 57) (v := 1) hK dX0_boat_57 (by decide) ?_
              refine j_goto (pc := 58) (tgt := 62) hK dX0_boat_58 (by decide) ?_
              refine j_ist4 (pc := 62) hK dX0_boat_62 (by decide) rfl ?_
              refine j_iload (pc := 64) hK dX0_boat_64 rfl ?_
              refine j_if_ne (pc := 66) (tgt := 72) hK dX0_boat_66 (by decide) (fun c66 => ?_) (fun c66 => absurd c66 (by decide))
              have hok := oBoat_ok (f := f) (g := g) c9 ⟨Int32.not_lt.mp c13, c23, c32⟩ ⟨Int32.not_lt.mp c36, c54⟩
              refine j_aload_n (pc := 72) hK dX0_boat_72 rfl ?_
              refine xc_get (pc := 73) (k := 6) (v := f 0) hK (fun _ w => w) (by decide) rfl (r.1 6 rfl) q754 rfl dX0_boat_73 ?_
              refine j_bipush (pc := 76) (v := 7) hK dX0_boat_76 (by decide) ?_
              refine j_icmp_ne (pc := 78) (tgt := 84) hK dX0_boat_78 (by decide) (fun c78 => ?_) (fun c78 => ?_)
              · have hb : b < 7 := by
                  rcases Nat.lt_or_ge b 7 with z | z
                  · exact z
                  · exact absurd (by rw [e0, show b = 7 by omega]; decide) c78
                obtain ⟨k, hk, ek⟩ := i6 c9.1 c9.2
                have hnb : b ≤ x.nb := by
                  rcases Nat.eq_zero_or_pos b with z | z
                  · omega
                  · have := r.2.2.1.2 (nI (b - 1)) ⟨Int32.not_lt.mp (nI_pos (by omega)), by rw [e0]; exact nI_lt (by omega) (by omega)⟩
                    rw [nI_clamp (by omega)] at this
                    omega
                refine j_aload_n (pc := 84) hK dX0_boat_84 rfl ?_
                refine xc_getR (pc := 85) (k := 0) hK (fun _ w => w) (by decide) rfl q747 rfl dX0_boat_85 ?_
                refine j_aload_n (pc := 88) hK dX0_boat_88 rfl ?_
                refine xc_get (pc := 89) (k := 6) (v := f 0) hK (fun _ w => w) (by decide) rfl (r.1 6 rfl) q754 rfl dX0_boat_89 ?_
                refine j_iload_n (pc := 92) hK dX0_boat_92 rfl ?_
                refine j_iload_n (pc := 93) hK dX0_boat_93 rfl ?_
                refine j_bipush (pc := 94) (v := 100) hK dX0_boat_94 (by decide) ?_
                refine j_irem (pc := 96) hK dX0_boat_96 (by decide) ?_
                rw [show Value.int kind = Value.int (nI k) by rw [ek]]
                refine j_callS (pc := 97) hK hQ (c_Xmade (k := k) (by omega)) cal_X0_made q114 dX0_boat_97 rfl rfl (nle rfl) (nle rfl) (nle rfl) (nle rfl) (kr_r fun r97 => ?_) kx_r
                refine J.ex fun a97 => J.pre fun e97 => ?_
                subst e97
                refine j_aast (pc := 100) (t := 3) (E := "BoatsCalledIn$Boat") (P' := XC Γ (L1 L (36 + b) a97) T (f 17).toNatClampNeg (xnB x b k (what % 100))) hK rfl dX0_boat_100 (fun h ⟨h0, w, hn, eh⟩ => ?_) ?_
                · have hL0 := w.1.at xcs_b
                  have hne : L 0 ≠ a97 := fun z => by rw [z, hn] at hL0; cases hL0
                  obtain ⟨cr, hcr, hcc⟩ := cls_bt (k := k) (by omega)
                  refine ⟨7, _, fun j => if j < (xnB x b k (what % 100)).nb then some (L1 L (36 + b) a97 (36 + j)) else none, 8 + k, _, cr, by rw [eh, pu_ne _ _ hne]; exact hL0, by rw [e0]; exact vp_in_nI hb (by decide), by rw [eh, pu_self], hcr, hcc, fun j hj => ?_, ?_⟩
                  · rw [e0, nI_clamp (by omega)]
                    show va_up (fun j => if j < x.2.2.1 then some (L (36 + j)) else none) b (some a97) j = if j < max x.2.2.1 (b + 1) then some (L1 L (36 + b) a97 (36 + j)) else none
                    have hnb' : b ≤ x.2.2.1 := hnb
                    unfold va_up
                    by_cases z : j = b
                    · subst z
                      rw [if_pos rfl, if_pos (by omega), L1_s]
                    · rw [if_neg z, L1_o (by omega)]
                      show (if j < x.2.2.1 then some (L (36 + j)) else none) = _
                      by_cases y : j < x.2.2.1
                      · rw [if_pos y, if_pos (by omega)]
                      · rw [if_neg y, if_neg (by omega)]
                  · rw [eh]
                    exact w.boat hn hb hnb r.2.2.1.1 (by omega)
                rw [← ek]
                exact rest k _ (fun j hj => L1_o (by omega)) hb (by rw [hok, if_neg c78, ek])
              · refine j_bipush (pc := 81) (v := (-4)) hK dX0_boat_81 (by decide) ?_
                exact j_iret (pc := 83) hK hQ (nle rfl) (nle rfl) dX0_boat_83 (fun h w => ⟨_, rfl, L, fun _ _ => rfl, _, _, hok.trans (if_pos c78), xi_close w rfl r trivial⟩)
end X71
