/-! the class reads a text -/
set_option maxRecDepth 100000
section P79
variable {Γ : Gam} {A : Nat → Prop} {L : Nat → Nat} {f f' : Nat → Int32} {g : Nat → Int32 → Int32} {T : TX} {x x0 : XD} {tm : Nat} {φ : XD → Prop}
theorem XR.tape0 (r : XR f g x) : XR (upd f 15 0) g (xpF x 17 0) := by
  obtain ⟨r1, r2, r3, r4, r5, r6, r7⟩ := r
  have same : ∀ m, m ≠ 15 → upd f 15 0 m = f m := fun m h => upd_o h
  have hb : ∀ b, Bo (upd f 15 0) b → Bo f b := fun b hb => ⟨hb.1, by have := hb.2; rwa [same 0 (by decide)] at this⟩
  refine ⟨fun j hj => ?_, fun i hi => ?_, ⟨r3.1, fun b h => r3.2 b (hb b h)⟩, fun j hj b h => r4 j hj b (hb b h), fun j h0 h1 => ?_, fun h => ?_, r7⟩
  · show upd x.p 17 0 j = _
    rcases xfd_in hj with rfl | rfl | rfl | rfl | rfl | rfl | rfl <;> first | exact r1 _ rfl | rfl
  · rw [same (xl i) (by unfold xl; split <;> decide)]
    exact r2 i hi
  · rw [show upd f 15 0 15 = 0 from upd_s] at h1
    exact absurd (Int32.lt_of_le_of_lt h0 h1) (by decide)
  · rw [same 33 (by decide)] at h
    have q := r6 h
    unfold XRi at q ⊢
    rw [same 34 (by decide), same 0 (by decide)]
    exact q
/-- the world with one more text -/
def xnT (x : XD) (tm : Nat) (tr : Nat → Nat) : XD := (x.1, x.2.1, x.2.2.1, (fun t w => if t = tm then tr w else x.2.2.2.1 t w), x.2.2.2.2)
theorem XR.tm1 {tr : Nat → Nat} {v : Int32} (r : XR f g x) : XR (upd f 17 v) g (xpF (xnT x tm tr) 13 v) := by
  obtain ⟨r1, r2, r3, r4, r5, r6, r7⟩ := r
  have same : ∀ m, m ≠ 17 → upd f 17 v m = f m := fun m h => upd_o h
  have hb : ∀ b, Bo (upd f 17 v) b → Bo f b := fun b hb => ⟨hb.1, by have := hb.2; rwa [same 0 (by decide)] at this⟩
  refine ⟨fun j hj => ?_, fun i hi => ?_, ⟨r3.1, fun b h => r3.2 b (hb b h)⟩, fun j hj b h => r4 j hj b (hb b h), fun j h0 h1 => r5 j h0 (by rwa [same 15 (by decide)] at h1), fun h => ?_, r7⟩
  · show upd x.p 13 v j = _
    rcases xfd_in hj with rfl | rfl | rfl | rfl | rfl | rfl | rfl <;> first | exact r1 _ rfl | rfl
  · rw [same (xl i) (by unfold xl; split <;> decide)]
    exact r2 i hi
  · rw [same 33 (by decide)] at h
    have q := r6 h
    unfold XRi at q ⊢
    rw [same 34 (by decide), same 0 (by decide)]
    exact q
/-- what is in use, but for boats, is told by the sheets' sorts -/
theorem xcs_dom {k : Nat} (h38 : ∀ s, s < 4 → x.q 38 (nI s) = x0.q 38 (nI s)) (h : xcs Γ L x tm k ≠ none) : xcs Γ L x0 tm k ≠ none ∨ ∃ ci fs, xcs Γ L x tm k = some (.inr (ci, fs)) := by
  unfold xcs at h ⊢
  by_cases h1 : xia k = true
  · rw [if_pos h1]; exact Or.inl (fun z => by cases z)
  rw [if_neg h1] at h ⊢; rw [if_neg h1]
  by_cases h2 : k = 35
  · rw [if_pos h2]; exact Or.inl (fun z => by cases z)
  rw [if_neg h2] at h ⊢; rw [if_neg h2]
  by_cases h3 : k = 0
  · rw [if_pos h3]; exact Or.inl (fun z => by cases z)
  rw [if_neg h3] at h ⊢; rw [if_neg h3]
  by_cases h4 : k = 10
  · rw [if_pos h4]; exact Or.inl (fun z => by cases z)
  rw [if_neg h4] at h ⊢; rw [if_neg h4]
  by_cases h5 : k = 12
  · rw [if_pos h5]; exact Or.inl (fun z => by cases z)
  rw [if_neg h5] at h ⊢; rw [if_neg h5]
  by_cases h6 : k = 14
  · rw [if_pos h6]; exact Or.inl (fun z => by cases z)
  rw [if_neg h6] at h ⊢; rw [if_neg h6]
  by_cases h7 : k = 15
  · rw [if_pos h7]; exact Or.inl (fun z => by cases z)
  rw [if_neg h7] at h ⊢; rw [if_neg h7]
  by_cases h8 : k = 31
  · rw [if_pos h8]; exact Or.inl (fun z => by cases z)
  rw [if_neg h8] at h ⊢; rw [if_neg h8]
  by_cases h9 : k = 34
  · rw [if_pos h9]; exact Or.inl (fun z => by cases z)
  rw [if_neg h9] at h ⊢; rw [if_neg h9]
  by_cases h10 : 36 ≤ k ∧ k < 36 + x.nb ∧ k < 43
  · rw [if_pos h10] at h ⊢; exact Or.inr ⟨_, _, rfl⟩
  rw [if_neg h10] at h ⊢
  by_cases h10' : 36 ≤ k ∧ k < 36 + x0.nb ∧ k < 43
  · rw [if_pos h10']; exact Or.inl (fun z => by cases z)
  rw [if_neg h10']
  by_cases h11 : 49 ≤ k ∧ k < 53
  · rw [if_pos h11]; exact Or.inl (fun z => by cases z)
  rw [if_neg h11] at h ⊢; rw [if_neg h11]
  by_cases h12 : 53 ≤ k ∧ k < 57 ∧ ¬ x.q 38 (nI (k - 53)) = -1
  · have h12' := h12
    rw [h38 (k - 53) (by omega)] at h12'
    rw [if_pos h12']; exact Or.inl (fun z => by cases z)
  rw [if_neg h12] at h ⊢
  by_cases h13 : 57 ≤ k ∧ k < 57 + tm ∧ k < 63
  · by_cases h14 : 53 ≤ k ∧ k < 57 ∧ ¬ x0.q 38 (nI (k - 53)) = -1
    · omega
    · rw [if_neg h14, if_pos h13]; exact Or.inl (fun z => by cases z)
  rw [if_neg h13] at h
  exact absurd rfl h
theorem xcs_nT {tr : Nat → Nat} {a j : Nat} (h6 : tm < 6) (hnb : x.nb ≤ 7) (hj : j ≠ 57 + tm) (hj2 : j ≠ 12) (h31 : j ≠ 31) (h34 : j ≠ 34) : xcs Γ (L1 L (57 + tm) a) (xnT x tm tr) (tm + 1) j = xcs Γ L x tm j := by
  have hL : ∀ m, m < 57 → L1 L (57 + tm) a m = L m := fun m hm => L1_o (by omega)
  have hfs : xfs (L1 L (57 + tm) a) x.p = xfs L x.p := by
    unfold xfs
    apply List.map_congr_left
    intro m hm
    have := List.mem_range.mp hm
    unfold xfv
    rw [hL m (by omega)]
  have hbo : (fun b => if b < x.nb then some (L1 L (57 + tm) a (36 + b)) else none) = (fun b => if b < x.nb then some (L (36 + b)) else none) := by
    funext b
    by_cases hb : b < x.nb
    · rw [if_pos hb, if_pos hb, hL _ (by omega)]
    · rw [if_neg hb, if_neg hb]
  have htx : (57 ≤ j ∧ j < 57 + (tm + 1) ∧ j < 63) ↔ (57 ≤ j ∧ j < 57 + tm ∧ j < 63) := by omega
  show (if xia j = true then some (Sum.inl (if j = 16 then gA Γ 1 else gA Γ 0, xln j, Sum.inl fun i => x.q j (nI i))) else if j = 35 then some (Sum.inr (0, xfs (L1 L (57 + tm) a) x.p)) else if j = 0 then some (Sum.inl (gA Γ 3, 7, rfA fun b => if b < x.nb then some (L1 L (57 + tm) a (36 + b)) else none)) else _) = _
  rw [hfs, hbo]
  unfold xcs
  by_cases h49 : 49 ≤ j ∧ j < 53
  · rw [if_neg hj2, if_neg h31, if_neg h34, if_pos h49, if_neg hj2, if_neg h31, if_neg h34, if_pos h49, hL (53 + (j - 49)) (by omega)]
    rfl
  · by_cases h57 : 57 ≤ j ∧ j < 57 + tm ∧ j < 63
    · rw [if_neg hj2, if_neg h31, if_neg h34, if_neg h49, if_pos (htx.mpr h57), if_neg hj2, if_neg h31, if_neg h34, if_neg h49, if_pos h57]
      have hr : (fun w => some (((xnT x tm tr).r (j - 57)) w)) = (fun w => some (x.r (j - 57) w)) := by
        funext w
        show some (if j - 57 = tm then tr w else x.r (j - 57) w) = _
        rw [if_neg (by omega)]
      rw [show (rfA fun w => some ((xnT x tm tr).r (j - 57) w)) = (rfA fun w => some (x.r (j - 57) w)) from congrArg rfA hr]
      rfl
    · rw [if_neg hj2, if_neg h31, if_neg h34, if_neg h49, if_neg (fun z => h57 (htx.mp z)), if_neg hj2, if_neg h31, if_neg h34, if_neg h49, if_neg h57]
      rfl
theorem pic_arr {Γ : Gam} {a n t : Nat} {u u' : Nat → Option Nat} (h : ∀ j, j < n → u j = u' j) (H : Heap) (w : va_at (gD Γ) vwCl (a, .inl (gA Γ t, n, rfA u)) H) : va_at (gD Γ) vwCl (a, .inl (gA Γ t, n, rfA u')) H := by
  show H[a]? = some (vp_cell _ _)
  rw [← rfA_congr h]
  exact w
theorem J.pic {P P' : PH → Prop} {K : JC} {pc : Nat} {ls : List (Option Value)} {st : List Value} {cs ss : Nat} (hp : ∀ h, P h → ∃ h', P' h' ∧ ∀ a e', h' a = some e' → ∃ e, h a = some e ∧ ∀ H, va_at (gD Γ) vwCl (a, e) H → va_at (gD Γ) vwCl (a, e') H) (k : J Γ A K pc ls st P' cs ss) : J Γ A K pc ls st P cs ss := fun h H locs arr hP hR hL => by
  obtain ⟨h', hP', hc⟩ := hp h hP
  refine k h' H locs arr hP' ⟨fun a e' q => ?_, hR.2⟩ hL
  obtain ⟨e, q1, q2⟩ := hc a e' q
  exact ⟨q2 H (hR.1 a e q1).1, (hR.1 a e q1).2⟩
/-- the heap with the new text, its two rows told anew -/
def hnT (Γ : Gam) (L : Nat → Nat) (tm a : Nat) (h : PH) : PH := pu (pu h (L 31) (.inl (gA Γ 7, 6, rfA fun i => some (L1 L (57 + tm) a (43 + i))))) (L 34) (.inl (gA Γ 8, 4, rfA fun i => some (L1 L (57 + tm) a (49 + i))))
def e12 (Γ : Gam) (L : Nat → Nat) (tm a : Nat) : va_E := .inl (gA Γ 5, 6, rfA fun t => if t < tm + 1 then some (L1 L (57 + tm) a (57 + t)) else none)
theorem XC.text {a : Nat} {tr : Nat → Nat} {T' : TX} {h : PH} (w : XC Γ L T tm x h) (ha : h a = some (.inl (gA Γ 4, 3, rfA fun w => some (tr w)))) (hf : ∀ k, xcs Γ L x tm k ≠ none → L k ≠ a) (h6 : tm < 6) (hnb : x.nb ≤ 7) (hT : ∀ t, t < tm → ∀ w, w < 3 → T' (nI t) w = T (nI t) w) (hn : ∀ w, w < 3 → NT 160 h (L 35) (tr w) (T' (nI tm) w)) : XC Γ (L1 L (57 + tm) a) T' (tm + 1) (xnT x tm tr) (hnT Γ L tm a (pu h (L 12) (e12 Γ L tm a))) := by
  obtain ⟨w1, w2, w3⟩ := w
  have hL : ∀ m, m < 57 → L1 L (57 + tm) a m = L m := fun m hm => L1_o (by omega)
  have wd : WD (xcs Γ L x tm) L (del h a) := ⟨fun k e q => by rw [del_ne (hf k (by rw [q]; exact fun z => by cases z))]; exact w1.1 k e q, w1.2⟩
  have s1 := wd.swap (S' := fun k => if k = 31 then xcs Γ L x tm 31 else if k = 34 then xcs Γ L x tm 34 else xcs Γ (L1 L (57 + tm) a) (xnT x tm tr) (tm + 1) k) (k0 := 57 + tm) (k1 := 12) (a := a) (e0 := .inl (gA Γ 4, 3, rfA fun w => some (tr w))) (e1 := e12 Γ L tm a) del_s (by omega) (by rw [xcs_t]; exact fun z => by cases z) (by
      rw [if_neg (by omega), if_neg (by omega), xcs_tx (by omega) h6]
      show some (Sum.inl (gA Γ 4, 3, rfA fun w => some (if tm = tm then tr w else x.r tm w))) = _
      simp) (by
      show xcs Γ (L1 L (57 + tm) a) (xnT x tm tr) (tm + 1) 12 = _
      rw [xcs_t]; rfl) (fun k h1 h2 => by
      by_cases q1 : k = 31
      · rw [if_pos q1, q1]
      · rw [if_neg q1]
        by_cases q2 : k = 34
        · rw [if_pos q2, q2]
        · rw [if_neg q2]
          exact xcs_nT h6 hnb h1 h2 q1 q2)
  rw [← del_pu ha] at s1
  have s2 := s1.put (S' := fun k => if k = 34 then xcs Γ L x tm 34 else xcs Γ (L1 L (57 + tm) a) (xnT x tm tr) (tm + 1) k) (k0 := 31) (e := .inl (gA Γ 7, 6, rfA fun i => some (L1 L (57 + tm) a (43 + i)))) (by rw [if_pos rfl, xcs_i]; exact fun z => by cases z) (by rw [if_neg (by decide), xcs_i]) (fun k hk => by rw [if_neg hk])
  have s3 := s2.put (S' := xcs Γ (L1 L (57 + tm) a) (xnT x tm tr) (tm + 1)) (k0 := 34) (e := .inl (gA Γ 8, 4, rfA fun i => some (L1 L (57 + tm) a (49 + i)))) (by rw [if_pos rfl, xcs_s]; exact fun z => by cases z) xcs_s (fun k hk => by rw [if_neg hk])
  rw [hL 31 (by decide), hL 34 (by decide)] at s3
  have n12 : L 31 ≠ L 12 := fun z => by
    have := w1.2 31 12 (by rw [xcs_i]; exact fun z => by cases z) (by rw [xcs_t]; exact fun z => by cases z) z
    omega
  have n34 : L 34 ≠ L 12 := fun z => by
    have := w1.2 34 12 (by rw [xcs_s]; exact fun z => by cases z) (by rw [xcs_t]; exact fun z => by cases z) z
    omega
  have n31 : L 34 ≠ L 31 := fun z => by
    have := w1.2 34 31 (by rw [xcs_s]; exact fun z => by cases z) (by rw [xcs_i]; exact fun z => by cases z) z
    omega
  have kn : KN h (hnT Γ L tm a (pu h (L 12) (e12 Γ L tm a))) := by
    refine KN.trans (KN.putA _ (w1.at xcs_t)) (KN.trans (KN.putA _ (e0 := (gA Γ 7, 6, rfA fun i => some (L (43 + i)))) ?_) (KN.putA _ (e0 := (gA Γ 8, 4, rfA fun i => some (L (49 + i)))) ?_))
    · rw [pu_ne _ _ n12]; exact w1.at xcs_i
    · rw [pu_ne _ _ n31, pu_ne _ _ n34]; exact w1.at xcs_s
  refine ⟨s3, ⟨by omega, fun t ht w hw => ?_⟩, w3⟩
  rw [hL 35 (by decide)]
  show NT 160 _ _ (if t = tm then tr w else x.r t w) _
  by_cases e : t = tm
  · rw [if_pos e, e]
    exact NT.kept kn _ _ _ _ (hn w hw)
  · rw [if_neg e, hT t (by omega) w hw]
    exact NT.kept kn _ _ _ _ (w2.2 t (by omega) w hw)
theorem nt_cls {S : PH} {o a : Nat} {c : List Int32} (w : NTe S o a c) : ∃ ci vs r, S a = some (.inr (ci, vs)) ∧ vwCl[ci]? = some r ∧ (r.1 = RX3 ∨ Cond.castable r.1 RX3 ∈ lw_tbl) := by
  obtain ⟨m, w⟩ := w
  cases m with
  | zero => exact w.elim
  | succ m =>
    rcases w with ⟨v, h0, h1, h2⟩ | ⟨v, h0, h3, h1, h2⟩ | ⟨b, c1, s, h1, h2, h3, h4⟩ | ⟨b1, b2, c1, c2, sg, op, h1, h2, h3, h4, h5⟩
    · exact ⟨_, _, _, h2, rfl, Or.inr q1555⟩
    · exact ⟨_, _, _, h2, rfl, Or.inr q1556⟩
    · exact ⟨_, _, _, h3, rfl, Or.inr q1554⟩
    · exact ⟨_, _, _, h3, rfl, Or.inr q1557⟩
/-- an array beside the world is written -/
theorem xq_row {S h : PH} {a : Nat} {e0 e1 : ClassId × vp_A} (hf : ∀ x, XR f g x → ∀ k, xcs Γ L x (f 17).toNatClampNeg k ≠ none → h (L k) ≠ none → (∃ ci fs, xcs Γ L x (f 17).toNatClampNeg k = some (.inr (ci, fs))) ∨ L k ≠ a) (w : XQ Γ L f g T φ (Sb S) h) (ha : S a = some (.inl e0)) : XQ Γ L f g T φ (Sb (pu S a (.inl e1))) (pu h a (.inl e1)) := by
  obtain ⟨⟨x, w1, r, t, s, e⟩, hS⟩ := w
  have h1 := hS a _ ha
  refine ⟨⟨x, ⟨fun k y q => ?_, w1.2⟩, r, t.kept (KN.putA _ h1) rfl, s, e⟩, hS.puS _ _⟩
  have h2 := w1.1 k y q
  rw [pu_ne _ _ (fun z => ?_)]
  · exact h2
  · rcases hf x r k (by rw [q]; exact fun z => by cases z) (by rw [h2]; exact fun z => by cases z) with ⟨ci, fs, q2⟩ | q2
    · rw [q] at q2
      rw [z, h1, ← Option.some.inj q2.symm] at h2
      cases h2
    · exact q2 z
end P79
