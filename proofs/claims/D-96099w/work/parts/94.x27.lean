/-! the class: a sheet is laid -/
set_option maxRecDepth 100000
section P94
variable {Γ : Gam} {A : Nat → Prop} {L : Nat → Nat} {f : Nat → Int32} {g : Nat → Int32 → Int32} {T : TX} {P P' : PH → Prop} {x : XD} {tm : Nat}
theorem L1_self (k : Nat) : L1 L k (L k) = L := funext fun m => by
  by_cases e : m = k
  · rw [e, L1_s]
  · rw [L1_o e]
theorem xcs_row0 {k : Nat} {n : Int32} (hk : k < 4) : xcs Γ L (xnS x k (-1) n) tm (53 + k) = none := by
  have e38 : (xnS x k (-1) n).q 38 (nI k) = -1 := by rw [xnS_38, if_pos rfl]
  have h1 : xia (53 + k) = false := by rcases n4 hk with rfl | rfl | rfl | rfl <;> rfl
  unfold xcs
  rw [if_neg (by rw [h1]; decide), if_neg (by omega), if_neg (by omega), if_neg (by omega), if_neg (by omega), if_neg (by omega), if_neg (by omega), if_neg (by omega), if_neg (by omega), if_neg (by omega), if_neg (by omega), show 53 + k - 53 = k by omega, if_neg (fun z => z.2.2 e38), if_neg (by omega)]
theorem XC.sheet0 {k : Nat} {n : Int32} {h : PH} (w : XC Γ L T tm x h) (hk : k < 4) (hnb : x.nb ≤ 7) : XC Γ L T tm (xnS x k (-1) n) (pu h (L (49 + k)) (.inr (2, [.null]))) := by
  obtain ⟨w1, w2, w3⟩ := w
  have e38 : (xnS x k (-1) n).q 38 (nI k) = -1 := by rw [xnS_38, if_pos rfl]
  have same : ∀ j, j ≠ 53 + k → j ≠ 49 + k → xcs Γ L (xnS x k (-1) n) tm j = xcs Γ L x tm j := fun j h1 h2 => by
    by_cases q1 : j = 31
    · rw [q1, xcs_i, xcs_i]
    · by_cases q2 : j = 34
      · rw [q2, xcs_s, xcs_s]
      · have := xcs_nS (Γ := Γ) (L := L) (x := x) (tm := tm) (a := L (53 + k)) (s := -1) (n := n) hk hnb h1 h2 q1 q2
        rw [L1_self] at this
        exact this
  have dom : ∀ j, xcs Γ L (xnS x k (-1) n) tm j ≠ none → xcs Γ L x tm j ≠ none := fun j hj => by
    by_cases q1 : j = 53 + k
    · rw [q1, xcs_row0 hk] at hj; exact absurd rfl hj
    · by_cases q2 : j = 49 + k
      · rw [q2, xcs_sh hk]; exact fun z => by cases z
      · rw [← same j q1 q2]; exact hj
  refine ⟨⟨fun j e q => ?_, fun j j' h1 h2 e => w1.2 j j' (dom j h1) (dom j' h2) e⟩, w2.kept (KN.putO _ (w1.at (xcs_sh hk)) (Or.inl (by decide))) rfl, w3⟩
  by_cases q1 : j = 53 + k
  · rw [q1, xcs_row0 hk] at q; cases q
  · by_cases q2 : j = 49 + k
    · rw [q2, xcs_sh hk, e38, if_pos rfl] at q
      rw [q2, pu_self, ← Option.some.inj q]
    · have q3 := q
      rw [same j q1 q2] at q3
      rw [pu_ne _ _ (fun z => q2 (w1.2 j (49 + k) (by rw [q3]; exact fun z => by cases z) (by rw [xcs_sh hk]; exact fun z => by cases z) z))]
      exact w1.1 j e q3
/-- told anew, the world has the new row -/
theorem j_sheet {K : JC} {pc : Nat} {ls : List (Option Value)} {st : List Value} {cs ss k a : Nat} {s n : Int32} (hk : k < 4) (hs : ¬ s = -1) (hnb : x.nb ≤ 7) (kk : J Γ A K pc ls st (XC Γ (L1 L (53 + k) a) T tm (xnS x k s n)) cs ss) : J Γ A K pc ls st (fun h => ∃ h0, XC Γ L T tm x h0 ∧ h0 a = none ∧ h = pu (pu h0 a (.inl (gA Γ (srt s), n.toNatClampNeg, .inl fun _ => 0))) (L (49 + k)) (.inr (2, [.ref a]))) cs ss := by
  refine J.pic (fun h w => ?_) kk
  obtain ⟨h0, w, ha, e⟩ := w
  refine ⟨_, w.sheet ha hk hs hnb, fun b e' q => ?_⟩
  have w1 := w.1
  have fr : ∀ j e, xcs Γ L x tm j = some e → L j ≠ a := fun j e q z => by
    have := w1.1 j e q
    rw [z, ha] at this
    cases this
  have d31 : L 31 ≠ L (49 + k) := fun z => by
    have := w1.2 31 (49 + k) (by rw [xcs_i]; exact fun z => by cases z) (by rw [xcs_sh hk]; exact fun z => by cases z) z
    omega
  have d34 : L 34 ≠ L (49 + k) := fun z => by
    have := w1.2 34 (49 + k) (by rw [xcs_s]; exact fun z => by cases z) (by rw [xcs_sh hk]; exact fun z => by cases z) z
    omega
  unfold hnS at q
  rw [e]
  by_cases b34 : b = L 34
  · rw [b34, pu_self] at q
    rw [b34, pu_ne _ _ d34, pu_ne _ _ (fr _ _ xcs_s)]
    refine ⟨_, w1.at xcs_s, fun H v => ?_⟩
    rw [← Option.some.inj q]
    exact pic_arr (fun j hj => by rw [L1_o (by omega)]) H v
  · rw [pu_ne _ _ b34] at q
    by_cases b31 : b = L 31
    · rw [b31, pu_self] at q
      rw [b31, pu_ne _ _ d31, pu_ne _ _ (fr _ _ xcs_i)]
      refine ⟨_, w1.at xcs_i, fun H v => ?_⟩
      rw [← Option.some.inj q]
      exact pic_arr (fun j hj => by rw [L1_o (by omega)]) H v
    · rw [pu_ne _ _ b31] at q
      exact ⟨_, q, fun H v => v⟩
end P94
