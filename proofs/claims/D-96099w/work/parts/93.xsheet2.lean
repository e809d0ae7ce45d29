/-! a sheet gets a new row, in the world -/
set_option maxRecDepth 100000
section P93
variable {Γ : Gam} {A : Nat → Prop} {L : Nat → Nat} {T : TX} {x : XD} {tm : Nat}
theorem xcs_nS {k a j : Nat} {s n : Int32} (hk : k < 4) (hnb : x.nb ≤ 7) (h53 : j ≠ 53 + k) (h49 : j ≠ 49 + k) (h31 : j ≠ 31) (h34 : j ≠ 34) : xcs Γ (L1 L (53 + k) a) (xnS x k s n) tm j = xcs Γ L x tm j := by
  have hL : ∀ m, m ≠ 53 + k → L1 L (53 + k) a m = L m := fun m hm => L1_o hm
  have hfs : xfs (L1 L (53 + k) a) x.p = xfs L x.p := by
    unfold xfs
    apply List.map_congr_left
    intro m hm
    have := List.mem_range.mp hm
    unfold xfv
    rw [hL m (by omega)]
  have hbo : (fun b => if b < x.nb then some (L1 L (53 + k) a (36 + b)) else none) = (fun b => if b < x.nb then some (L (36 + b)) else none) := by
    funext b
    by_cases hb : b < x.nb
    · rw [if_pos hb, if_pos hb, hL _ (by omega)]
    · rw [if_neg hb, if_neg hb]
  have htx : (fun t => if t < tm then some (L1 L (53 + k) a (57 + t)) else none) = (fun t => if t < tm then some (L (57 + t)) else none) := funext fun t => by rw [hL _ (by omega)]
  have q0 : ∀ m, m ≠ 38 → m ≠ 39 → m ≠ 53 + k → (xnS x k s n).q m = x.q m := fun m a b c => xnS_q a b c
  unfold xcs
  show (if xia j = true then some (Sum.inl (if j = 16 then gA Γ 1 else gA Γ 0, xln j, Sum.inl fun i => (xnS x k s n).q j (nI i))) else if j = 35 then some (Sum.inr (0, xfs (L1 L (53 + k) a) x.p)) else if j = 0 then some (Sum.inl (gA Γ 3, 7, rfA fun b => if b < x.nb then some (L1 L (53 + k) a (36 + b)) else none)) else if j = 10 then some (Sum.inr (1, x.fv)) else if j = 12 then some (Sum.inl (gA Γ 5, 6, rfA fun t => if t < tm then some (L1 L (53 + k) a (57 + t)) else none)) else if j = 14 then _ else if j = 15 then _ else if j = 31 then _ else if j = 34 then _ else if 36 ≤ j ∧ j < 36 + x.nb ∧ j < 43 then some (Sum.inr (8 + ((xnS x k s n).q 37 (nI (j - 36))).toNatClampNeg, [Value.int ((xnS x k s n).q 36 (nI (j - 36)))])) else if 49 ≤ j ∧ j < 53 then some (Sum.inr (2, [if (xnS x k s n).q 38 (nI (j - 49)) = -1 then Value.null else Value.ref (L1 L (53 + k) a (53 + (j - 49)))])) else if 53 ≤ j ∧ j < 57 ∧ ¬ (xnS x k s n).q 38 (nI (j - 53)) = -1 then some (Sum.inl (gA Γ (srt ((xnS x k s n).q 38 (nI (j - 53)))), ((xnS x k s n).q 39 (nI (j - 53))).toNatClampNeg, Sum.inl fun i => (xnS x k s n).q j (nI i))) else if 57 ≤ j ∧ j < 57 + tm ∧ j < 63 then some (Sum.inl (gA Γ 4, 3, rfA fun w => some (x.r (j - 57) w))) else none) = _
  rw [hfs, hbo, htx, q0 36 (by decide) (by decide) (by omega), q0 37 (by decide) (by decide) (by omega), if_neg h31, if_neg h34, if_neg h31, if_neg h34]
  by_cases hx : xia j = true
  · rw [if_pos hx, if_pos hx, q0 j (by rintro rfl; cases hx) (by rintro rfl; cases hx) h53]
  rw [if_neg hx, if_neg hx]
  by_cases r1 : 49 ≤ j ∧ j < 53
  · have ne : ¬ nI (j - 49) = nI k := fun z => by rw [nI_eq (by omega) (by omega)] at z; omega
    rw [if_pos r1, if_pos r1, xnS_38, if_neg ne, hL (53 + (j - 49)) (by omega)]
    rfl
  rw [if_neg r1, if_neg r1]
  by_cases r2 : 53 ≤ j ∧ j < 57
  · have ne : ¬ nI (j - 53) = nI k := fun z => by rw [nI_eq (by omega) (by omega)] at z; omega
    rw [xnS_38, xnS_39, if_neg ne, if_neg ne, q0 j (by omega) (by omega) h53]
    rfl
  · rw [if_neg (show ¬ (53 ≤ j ∧ j < 57 ∧ ¬ (xnS x k s n).q 38 (nI (j - 53)) = -1) from fun z => r2 ⟨z.1, z.2.1⟩), if_neg (show ¬ (53 ≤ j ∧ j < 57 ∧ ¬ x.q 38 (nI (j - 53)) = -1) from fun z => r2 ⟨z.1, z.2.1⟩)]
    rfl
def hnS (Γ : Gam) (L : Nat → Nat) (k a : Nat) (h : PH) : PH := pu (pu h (L 31) (.inl (gA Γ 7, 6, rfA fun i => some (L1 L (53 + k) a (43 + i))))) (L 34) (.inl (gA Γ 8, 4, rfA fun i => some (L1 L (53 + k) a (49 + i))))
/-- a new row a at the sheet k -/
theorem XC.sheet {k a : Nat} {s n : Int32} {h : PH} (w : XC Γ L T tm x h) (ha : h a = none) (hk : k < 4) (hs : ¬ s = -1) (hnb : x.nb ≤ 7) : XC Γ (L1 L (53 + k) a) T tm (xnS x k s n) (hnS Γ L k a (pu (pu h a (.inl (gA Γ (srt s), n.toNatClampNeg, .inl fun _ => 0))) (L (49 + k)) (.inr (2, [.ref a])))) := by
  obtain ⟨w1, w2, w3⟩ := w
  have hL : ∀ m, m ≠ 53 + k → L1 L (53 + k) a m = L m := fun m hm => L1_o hm
  have e38 : (xnS x k s n).q 38 (nI k) = s := by rw [xnS_38, if_pos rfl]
  have e39 : (xnS x k s n).q 39 (nI k) = n := by rw [xnS_39, if_pos rfl]
  have s1 := w1.swap (S' := fun j => if j = 31 then xcs Γ L x tm 31 else if j = 34 then xcs Γ L x tm 34 else xcs Γ (L1 L (53 + k) a) (xnS x k s n) tm j) (k0 := 53 + k) (k1 := 49 + k) (a := a) (e0 := .inl (gA Γ (srt s), n.toNatClampNeg, .inl fun _ => 0)) (e1 := .inr (2, [.ref a])) ha (by omega) (by rw [xcs_sh hk]; exact fun z => by cases z) (by
      rw [if_neg (by omega), if_neg (by omega), xcs_row hk (by rw [e38]; exact hs), e38, e39]
      simp only [xnS_row]) (by
      rw [if_neg (by omega), if_neg (by omega), xcs_sh hk, e38, if_neg hs, L1_s]) (fun j h1 h2 => by
      by_cases q1 : j = 31
      · rw [if_pos q1, q1]
      · rw [if_neg q1]
        by_cases q2 : j = 34
        · rw [if_pos q2, q2]
        · rw [if_neg q2]
          exact xcs_nS hk hnb h1 h2 q1 q2)
  have s2 := s1.put (S' := fun j => if j = 34 then xcs Γ L x tm 34 else xcs Γ (L1 L (53 + k) a) (xnS x k s n) tm j) (k0 := 31) (e := .inl (gA Γ 7, 6, rfA fun i => some (L1 L (53 + k) a (43 + i)))) (by rw [if_pos rfl, xcs_i]; exact fun z => by cases z) (by rw [if_neg (by decide), xcs_i]) (fun j hj => by rw [if_neg hj])
  have s3 := s2.put (S' := xcs Γ (L1 L (53 + k) a) (xnS x k s n) tm) (k0 := 34) (e := .inl (gA Γ 8, 4, rfA fun i => some (L1 L (53 + k) a (49 + i)))) (by rw [if_pos rfl, xcs_s]; exact fun z => by cases z) xcs_s (fun j hj => by rw [if_neg hj])
  rw [hL 31 (by omega), hL 34 (by omega)] at s3
  have fr : ∀ j e, xcs Γ L x tm j = some e → L j ≠ a := fun j e q z => by
    have := w1.1 j e q
    rw [z, ha] at this
    cases this
  have d31 : L 31 ≠ L (49 + k) := fun z => by
    have := w1.2 31 (49 + k) (by rw [xcs_i]; exact fun z => by cases z) (by rw [xcs_sh hk]; exact fun z => by cases z) z
    omega
  have d34 : L 34 ≠ L (49 + k) := fun z => by
    have := w1.2 34 (49 + k) (by rw [xcs_s]; exact fun z => by cases z) (by rw [xcs_sh hk]; exact fun z => by cases z) z
    omega
  have d : L 34 ≠ L 31 := fun z => by
    have := w1.2 34 31 (by rw [xcs_s]; exact fun z => by cases z) (by rw [xcs_i]; exact fun z => by cases z) z
    omega
  have kn : KN h (hnS Γ L k a (pu (pu h a (.inl (gA Γ (srt s), n.toNatClampNeg, .inl fun _ => 0))) (L (49 + k)) (.inr (2, [.ref a])))) := by
    refine KN.trans (KN.new _ ha) (KN.trans (KN.putO _ (ci0 := 2) (fs0 := [if x.q 38 (nI k) = -1 then .null else .ref (L (53 + k))]) ?_ (Or.inl (by decide))) (KN.trans (KN.putA _ (e0 := (gA Γ 7, 6, rfA fun i => some (L (43 + i)))) ?_) (KN.putA _ (e0 := (gA Γ 8, 4, rfA fun i => some (L (49 + i)))) ?_)))
    · rw [pu_ne _ _ (fr _ _ (xcs_sh hk))]; exact w1.at (xcs_sh hk)
    · rw [pu_ne _ _ d31, pu_ne _ _ (fr _ _ xcs_i)]; exact w1.at xcs_i
    · rw [pu_ne _ _ d, pu_ne _ _ d34, pu_ne _ _ (fr _ _ xcs_s)]; exact w1.at xcs_s
  refine ⟨s3, ?_, w3⟩
  rw [hL 35 (by omega)]
  exact XTr.kept (x := x) kn rfl w2
end P93
