/-! the class: a boat taken for a kind -/
set_option maxRecDepth 100000
section P9A
variable {Γ : Gam} {A : Nat → Prop} {L : Nat → Nat} {f : Nat → Int32} {g : Nat → Int32 → Int32} {T : TX} {P P' : PH → Prop} {x : XD}
theorem i05 {v : Int32} (h : 0 ≤ v ∧ v ≤ 5) : v = 0 ∨ v = 1 ∨ v = 2 ∨ v = 3 ∨ v = 4 ∨ v = 5 := by
  obtain ⟨h1, h2⟩ := h
  grind
def asOk (kd k : Int32) : Prop := kd = k ∨ k = 0 ∨ (kd = 3 ∧ k = 1) ∨ (kd = 4 ∧ k = 2)
theorem asOk_dec (kd k : Int32) : asOk kd k = (kd = k ∨ k = 0 ∨ (kd = 3 ∧ k = 1) ∨ (kd = 4 ∧ k = 2)) := rfl
theorem c_XasN {k : Int32} (hk : 0 ≤ k ∧ k ≤ 5) : Ct Γ A yX0_as wX0_as 1 0 0 [.null, .int k] P (RR fun r h => r = .null ∧ P h) := by
  refine Ct.of (cc := cX0_as) (nL := 2) (ret := (some (.object "BoatsCalledIn$Boat"))) (ls := [some .null, some (.int k)]) rfl rfl rfl (nle rfl) ?_
  intro K hK hQ
  rcases i05 hk with rfl | rfl | rfl | rfl | rfl | rfl
  · skip
    refine j_iload_n (pc := 0) hK dX0_as_0 rfl ?_
    refine j_tableOut (pc := 1) (tgt := 61) hK dX0_as_1 (by decide) (by decide) ?_
    refine j_aload_nN (pc := 61) hK dX0_as_61 rfl ?_
    exact j_aret (pc := 62) hK hQ (Or.inl ⟨_, rfl⟩) (Or.inl rfl) (nle rfl) (nle rfl) dX0_as_62 (fun h w => ⟨_, rfl, rfl, w⟩)
  · skip
    refine j_iload_n (pc := 0) hK dX0_as_0 rfl ?_
    refine j_tableIn (pc := 1) (tgt := 36) hK dX0_as_1 (by decide) (by decide) rfl (by decide) ?_
    refine j_aload_nN (pc := 36) hK dX0_as_36 rfl ?_
    refine j_castN (pc := 37) hK dX0_as_37 ?_
    exact j_aret (pc := 40) hK hQ (Or.inl ⟨_, rfl⟩) (Or.inl rfl) (nle rfl) (nle rfl) dX0_as_40 (fun h w => ⟨_, rfl, rfl, w⟩)
  · skip
    refine j_iload_n (pc := 0) hK dX0_as_0 rfl ?_
    refine j_tableIn (pc := 1) (tgt := 41) hK dX0_as_1 (by decide) (by decide) rfl (by decide) ?_
    refine j_aload_nN (pc := 41) hK dX0_as_41 rfl ?_
    refine j_castN (pc := 42) hK dX0_as_42 ?_
    exact j_aret (pc := 45) hK hQ (Or.inl ⟨_, rfl⟩) (Or.inl rfl) (nle rfl) (nle rfl) dX0_as_45 (fun h w => ⟨_, rfl, rfl, w⟩)
  · skip
    refine j_iload_n (pc := 0) hK dX0_as_0 rfl ?_
    refine j_tableIn (pc := 1) (tgt := 46) hK dX0_as_1 (by decide) (by decide) rfl (by decide) ?_
    refine j_aload_nN (pc := 46) hK dX0_as_46 rfl ?_
    refine j_castN (pc := 47) hK dX0_as_47 ?_
    exact j_aret (pc := 50) hK hQ (Or.inl ⟨_, rfl⟩) (Or.inl rfl) (nle rfl) (nle rfl) dX0_as_50 (fun h w => ⟨_, rfl, rfl, w⟩)
  · skip
    refine j_iload_n (pc := 0) hK dX0_as_0 rfl ?_
    refine j_tableIn (pc := 1) (tgt := 51) hK dX0_as_1 (by decide) (by decide) rfl (by decide) ?_
    refine j_aload_nN (pc := 51) hK dX0_as_51 rfl ?_
    refine j_castN (pc := 52) hK dX0_as_52 ?_
    exact j_aret (pc := 55) hK hQ (Or.inl ⟨_, rfl⟩) (Or.inl rfl) (nle rfl) (nle rfl) dX0_as_55 (fun h w => ⟨_, rfl, rfl, w⟩)
  · skip
    refine j_iload_n (pc := 0) hK dX0_as_0 rfl ?_
    refine j_tableIn (pc := 1) (tgt := 56) hK dX0_as_1 (by decide) (by decide) rfl (by decide) ?_
    refine j_aload_nN (pc := 56) hK dX0_as_56 rfl ?_
    refine j_castN (pc := 57) hK dX0_as_57 ?_
    exact j_aret (pc := 60) hK hQ (Or.inl ⟨_, rfl⟩) (Or.inl rfl) (nle rfl) (nle rfl) dX0_as_60 (fun h w => ⟨_, rfl, rfl, w⟩)
theorem c_XasY {a kd : Nat} {k : Int32} (hk : 0 ≤ k ∧ k ≤ 5) (hkd : kd ≤ 5) (hok : asOk (nI kd) k) (hv : ∀ h, P h → ∃ n, h a = some (.inr (8 + kd, [.int n]))) : Ct Γ A yX0_as wX0_as 1 0 0 [.ref a, .int k] P (RR fun r h => r = .ref a ∧ P h) := by
  refine Ct.of (cc := cX0_as) (nL := 2) (ret := (some (.object "BoatsCalledIn$Boat"))) (ls := [some (.ref a), some (.int k)]) rfl rfl rfl (nle rfl) ?_
  intro K hK hQ
  rcases i05 hk with rfl | rfl | rfl | rfl | rfl | rfl
  · skip
    refine j_iload_n (pc := 0) hK dX0_as_0 rfl ?_
    refine j_tableOut (pc := 1) (tgt := 61) hK dX0_as_1 (by decide) (by decide) ?_
    refine j_aload_n (pc := 61) hK dX0_as_61 rfl ?_
    exact j_aret (pc := 62) hK hQ (Or.inl ⟨_, rfl⟩) (Or.inr ⟨_, rfl⟩) (nle rfl) (nle rfl) dX0_as_62 (fun h w => ⟨_, rfl, rfl, w⟩)
  · rcases k6 hkd with rfl | rfl | rfl | rfl | rfl | rfl
    · exact absurd hok (by rw [asOk_dec]; decide)
    · skip
      refine j_iload_n (pc := 0) hK dX0_as_0 rfl ?_
      refine j_tableIn (pc := 1) (tgt := 36) hK dX0_as_1 (by decide) (by decide) rfl (by decide) ?_
      refine j_aload_n (pc := 36) hK dX0_as_36 rfl ?_
      refine j_cast1 (pc := 37) hK q117 (IsC.cellC (C := RX10) hK (fun h w => by obtain ⟨n, e⟩ := hv h w; exact ⟨9, _, _, e, rfl, rfl⟩)) dX0_as_37 ?_
      exact j_aret (pc := 40) hK hQ (Or.inl ⟨_, rfl⟩) (Or.inr ⟨_, rfl⟩) (nle rfl) (nle rfl) dX0_as_40 (fun h w => ⟨_, rfl, rfl, w⟩)
    · exact absurd hok (by rw [asOk_dec]; decide)
    · skip
      refine j_iload_n (pc := 0) hK dX0_as_0 rfl ?_
      refine j_tableIn (pc := 1) (tgt := 36) hK dX0_as_1 (by decide) (by decide) rfl (by decide) ?_
      refine j_aload_n (pc := 36) hK dX0_as_36 rfl ?_
      refine j_castC (pc := 37) hK q117 q1552 (IsC.cellC (C := RX12) hK (fun h w => by obtain ⟨n, e⟩ := hv h w; exact ⟨11, _, _, e, rfl, rfl⟩)) dX0_as_37 ?_
      exact j_aret (pc := 40) hK hQ (Or.inl ⟨_, rfl⟩) (Or.inr ⟨_, rfl⟩) (nle rfl) (nle rfl) dX0_as_40 (fun h w => ⟨_, rfl, rfl, w⟩)
    · exact absurd hok (by rw [asOk_dec]; decide)
    · exact absurd hok (by rw [asOk_dec]; decide)
  · rcases k6 hkd with rfl | rfl | rfl | rfl | rfl | rfl
    · exact absurd hok (by rw [asOk_dec]; decide)
    · exact absurd hok (by rw [asOk_dec]; decide)
    · skip
      refine j_iload_n (pc := 0) hK dX0_as_0 rfl ?_
      refine j_tableIn (pc := 1) (tgt := 41) hK dX0_as_1 (by decide) (by decide) rfl (by decide) ?_
      refine j_aload_n (pc := 41) hK dX0_as_41 rfl ?_
      refine j_cast1 (pc := 42) hK q139 (IsC.cellC (C := RX11) hK (fun h w => by obtain ⟨n, e⟩ := hv h w; exact ⟨10, _, _, e, rfl, rfl⟩)) dX0_as_42 ?_
      exact j_aret (pc := 45) hK hQ (Or.inl ⟨_, rfl⟩) (Or.inr ⟨_, rfl⟩) (nle rfl) (nle rfl) dX0_as_45 (fun h w => ⟨_, rfl, rfl, w⟩)
    · exact absurd hok (by rw [asOk_dec]; decide)
    · skip
      refine j_iload_n (pc := 0) hK dX0_as_0 rfl ?_
      refine j_tableIn (pc := 1) (tgt := 41) hK dX0_as_1 (by decide) (by decide) rfl (by decide) ?_
      refine j_aload_n (pc := 41) hK dX0_as_41 rfl ?_
      refine j_castC (pc := 42) hK q139 q1553 (IsC.cellC (C := RX13) hK (fun h w => by obtain ⟨n, e⟩ := hv h w; exact ⟨12, _, _, e, rfl, rfl⟩)) dX0_as_42 ?_
      exact j_aret (pc := 45) hK hQ (Or.inl ⟨_, rfl⟩) (Or.inr ⟨_, rfl⟩) (nle rfl) (nle rfl) dX0_as_45 (fun h w => ⟨_, rfl, rfl, w⟩)
    · exact absurd hok (by rw [asOk_dec]; decide)
  · rcases k6 hkd with rfl | rfl | rfl | rfl | rfl | rfl
    · exact absurd hok (by rw [asOk_dec]; decide)
    · exact absurd hok (by rw [asOk_dec]; decide)
    · exact absurd hok (by rw [asOk_dec]; decide)
    · skip
      refine j_iload_n (pc := 0) hK dX0_as_0 rfl ?_
      refine j_tableIn (pc := 1) (tgt := 46) hK dX0_as_1 (by decide) (by decide) rfl (by decide) ?_
      refine j_aload_n (pc := 46) hK dX0_as_46 rfl ?_
      refine j_cast1 (pc := 47) hK q147 (IsC.cellC (C := RX12) hK (fun h w => by obtain ⟨n, e⟩ := hv h w; exact ⟨11, _, _, e, rfl, rfl⟩)) dX0_as_47 ?_
      exact j_aret (pc := 50) hK hQ (Or.inl ⟨_, rfl⟩) (Or.inr ⟨_, rfl⟩) (nle rfl) (nle rfl) dX0_as_50 (fun h w => ⟨_, rfl, rfl, w⟩)
    · exact absurd hok (by rw [asOk_dec]; decide)
    · exact absurd hok (by rw [asOk_dec]; decide)
  · rcases k6 hkd with rfl | rfl | rfl | rfl | rfl | rfl
    · exact absurd hok (by rw [asOk_dec]; decide)
    · exact absurd hok (by rw [asOk_dec]; decide)
    · exact absurd hok (by rw [asOk_dec]; decide)
    · exact absurd hok (by rw [asOk_dec]; decide)
    · skip
      refine j_iload_n (pc := 0) hK dX0_as_0 rfl ?_
      refine j_tableIn (pc := 1) (tgt := 51) hK dX0_as_1 (by decide) (by decide) rfl (by decide) ?_
      refine j_aload_n (pc := 51) hK dX0_as_51 rfl ?_
      refine j_cast1 (pc := 52) hK q155 (IsC.cellC (C := RX13) hK (fun h w => by obtain ⟨n, e⟩ := hv h w; exact ⟨12, _, _, e, rfl, rfl⟩)) dX0_as_52 ?_
      exact j_aret (pc := 55) hK hQ (Or.inl ⟨_, rfl⟩) (Or.inr ⟨_, rfl⟩) (nle rfl) (nle rfl) dX0_as_55 (fun h w => ⟨_, rfl, rfl, w⟩)
    · exact absurd hok (by rw [asOk_dec]; decide)
  · rcases k6 hkd with rfl | rfl | rfl | rfl | rfl | rfl
    · exact absurd hok (by rw [asOk_dec]; decide)
    · exact absurd hok (by rw [asOk_dec]; decide)
    · exact absurd hok (by rw [asOk_dec]; decide)
    · exact absurd hok (by rw [asOk_dec]; decide)
    · exact absurd hok (by rw [asOk_dec]; decide)
    · skip
      refine j_iload_n (pc := 0) hK dX0_as_0 rfl ?_
      refine j_tableIn (pc := 1) (tgt := 56) hK dX0_as_1 (by decide) (by decide) rfl (by decide) ?_
      refine j_aload_n (pc := 56) hK dX0_as_56 rfl ?_
      refine j_cast1 (pc := 57) hK q163 (IsC.cellC (C := RX14) hK (fun h w => by obtain ⟨n, e⟩ := hv h w; exact ⟨13, _, _, e, rfl, rfl⟩)) dX0_as_57 ?_
      exact j_aret (pc := 60) hK hQ (Or.inl ⟨_, rfl⟩) (Or.inr ⟨_, rfl⟩) (nle rfl) (nle rfl) dX0_as_60 (fun h w => ⟨_, rfl, rfl, w⟩)
theorem c_XasX {a kd : Nat} {k : Int32} (hk : 0 ≤ k ∧ k ≤ 5) (hkd : kd ≤ 5) (hok : ¬ asOk (nI kd) k) (hv : ∀ h, P h → ∃ n, h a = some (.inr (8 + kd, [.int n]))) : Ct Γ A yX0_as wX0_as 175 3 1610 [.ref a, .int k] P (TR P 16) := by
  refine Ct.of (cc := cX0_as) (nL := 2) (ret := (some (.object "BoatsCalledIn$Boat"))) (ls := [some (.ref a), some (.int k)]) rfl rfl rfl (nle rfl) ?_
  intro K hK hQ
  rcases i05 hk with rfl | rfl | rfl | rfl | rfl | rfl
  · exact absurd (Or.inr (Or.inl rfl)) hok
  · rcases k6 hkd with rfl | rfl | rfl | rfl | rfl | rfl
    · skip
      refine j_iload_n (pc := 0) hK dX0_as_0 rfl ?_
      refine j_tableIn (pc := 1) (tgt := 36) hK dX0_as_1 (by decide) (by decide) rfl (by decide) ?_
      refine j_aload_n (pc := 36) hK dX0_as_36 rfl ?_
      exact j_castNo (pc := 37) hK hQ q117 (nc_Boat_Skiff hK.g) (dot_len _ (by decide)) (dot_len _ (by decide)) (by decide +kernel) (by decide +kernel) (IsC.cellC (C := "BoatsCalledIn$Boat") hK (fun h w => by obtain ⟨n, e⟩ := hv h w; exact ⟨8, _, _, e, rfl, rfl⟩)) dX0_as_37 (by decide) (by decide) (by decide) (by decide) (nle rfl) (fun h x w hx => Or.inr ⟨x, rfl, h, w, hx, rfl⟩)
    · exact absurd (by rw [asOk_dec]; decide) hok
    · skip
      refine j_iload_n (pc := 0) hK dX0_as_0 rfl ?_
      refine j_tableIn (pc := 1) (tgt := 36) hK dX0_as_1 (by decide) (by decide) rfl (by decide) ?_
      refine j_aload_n (pc := 36) hK dX0_as_36 rfl ?_
      exact j_castNo (pc := 37) hK hQ q117 (nc_Punt_Skiff hK.g) (dot_len _ (by decide)) (dot_len _ (by decide)) (by decide +kernel) (by decide +kernel) (IsC.cellC (C := "BoatsCalledIn$Punt") hK (fun h w => by obtain ⟨n, e⟩ := hv h w; exact ⟨10, _, _, e, rfl, rfl⟩)) dX0_as_37 (by decide) (by decide) (by decide) (by decide) (nle rfl) (fun h x w hx => Or.inr ⟨x, rfl, h, w, hx, rfl⟩)
    · exact absurd (by rw [asOk_dec]; decide) hok
    · skip
      refine j_iload_n (pc := 0) hK dX0_as_0 rfl ?_
      refine j_tableIn (pc := 1) (tgt := 36) hK dX0_as_1 (by decide) (by decide) rfl (by decide) ?_
      refine j_aload_n (pc := 36) hK dX0_as_36 rfl ?_
      exact j_castNo (pc := 37) hK hQ q117 (nc_Deaf_Skiff hK.g) (dot_len _ (by decide)) (dot_len _ (by decide)) (by decide +kernel) (by decide +kernel) (IsC.cellC (C := "BoatsCalledIn$Deaf") hK (fun h w => by obtain ⟨n, e⟩ := hv h w; exact ⟨12, _, _, e, rfl, rfl⟩)) dX0_as_37 (by decide) (by decide) (by decide) (by decide) (nle rfl) (fun h x w hx => Or.inr ⟨x, rfl, h, w, hx, rfl⟩)
    · skip
      refine j_iload_n (pc := 0) hK dX0_as_0 rfl ?_
      refine j_tableIn (pc := 1) (tgt := 36) hK dX0_as_1 (by decide) (by decide) rfl (by decide) ?_
      refine j_aload_n (pc := 36) hK dX0_as_36 rfl ?_
      exact j_castNo (pc := 37) hK hQ q117 (nc_Lovers_Skiff hK.g) (dot_len _ (by decide)) (dot_len _ (by decide)) (by decide +kernel) (by decide +kernel) (IsC.cellC (C := "BoatsCalledIn$Lovers") hK (fun h w => by obtain ⟨n, e⟩ := hv h w; exact ⟨13, _, _, e, rfl, rfl⟩)) dX0_as_37 (by decide) (by decide) (by decide) (by decide) (nle rfl) (fun h x w hx => Or.inr ⟨x, rfl, h, w, hx, rfl⟩)
  · rcases k6 hkd with rfl | rfl | rfl | rfl | rfl | rfl
    · skip
      refine j_iload_n (pc := 0) hK dX0_as_0 rfl ?_
      refine j_tableIn (pc := 1) (tgt := 41) hK dX0_as_1 (by decide) (by decide) rfl (by decide) ?_
      refine j_aload_n (pc := 41) hK dX0_as_41 rfl ?_
      exact j_castNo (pc := 42) hK hQ q139 (nc_Boat_Punt hK.g) (dot_len _ (by decide)) (dot_len _ (by decide)) (by decide +kernel) (by decide +kernel) (IsC.cellC (C := "BoatsCalledIn$Boat") hK (fun h w => by obtain ⟨n, e⟩ := hv h w; exact ⟨8, _, _, e, rfl, rfl⟩)) dX0_as_42 (by decide) (by decide) (by decide) (by decide) (nle rfl) (fun h x w hx => Or.inr ⟨x, rfl, h, w, hx, rfl⟩)
    · skip
      refine j_iload_n (pc := 0) hK dX0_as_0 rfl ?_
      refine j_tableIn (pc := 1) (tgt := 41) hK dX0_as_1 (by decide) (by decide) rfl (by decide) ?_
      refine j_aload_n (pc := 41) hK dX0_as_41 rfl ?_
      exact j_castNo (pc := 42) hK hQ q139 (nc_Skiff_Punt hK.g) (dot_len _ (by decide)) (dot_len _ (by decide)) (by decide +kernel) (by decide +kernel) (IsC.cellC (C := "BoatsCalledIn$Skiff") hK (fun h w => by obtain ⟨n, e⟩ := hv h w; exact ⟨9, _, _, e, rfl, rfl⟩)) dX0_as_42 (by decide) (by decide) (by decide) (by decide) (nle rfl) (fun h x w hx => Or.inr ⟨x, rfl, h, w, hx, rfl⟩)
    · exact absurd (by rw [asOk_dec]; decide) hok
    · skip
      refine j_iload_n (pc := 0) hK dX0_as_0 rfl ?_
      refine j_tableIn (pc := 1) (tgt := 41) hK dX0_as_1 (by decide) (by decide) rfl (by decide) ?_
      refine j_aload_n (pc := 41) hK dX0_as_41 rfl ?_
      exact j_castNo (pc := 42) hK hQ q139 (nc_Leaky_Punt hK.g) (dot_len _ (by decide)) (dot_len _ (by decide)) (by decide +kernel) (by decide +kernel) (IsC.cellC (C := "BoatsCalledIn$Leaky") hK (fun h w => by obtain ⟨n, e⟩ := hv h w; exact ⟨11, _, _, e, rfl, rfl⟩)) dX0_as_42 (by decide) (by decide) (by decide) (by decide) (nle rfl) (fun h x w hx => Or.inr ⟨x, rfl, h, w, hx, rfl⟩)
    · exact absurd (by rw [asOk_dec]; decide) hok
    · skip
      refine j_iload_n (pc := 0) hK dX0_as_0 rfl ?_
      refine j_tableIn (pc := 1) (tgt := 41) hK dX0_as_1 (by decide) (by decide) rfl (by decide) ?_
      refine j_aload_n (pc := 41) hK dX0_as_41 rfl ?_
      exact j_castNo (pc := 42) hK hQ q139 (nc_Lovers_Punt hK.g) (dot_len _ (by decide)) (dot_len _ (by decide)) (by decide +kernel) (by decide +kernel) (IsC.cellC (C := "BoatsCalledIn$Lovers") hK (fun h w => by obtain ⟨n, e⟩ := hv h w; exact ⟨13, _, _, e, rfl, rfl⟩)) dX0_as_42 (by decide) (by decide) (by decide) (by decide) (nle rfl) (fun h x w hx => Or.inr ⟨x, rfl, h, w, hx, rfl⟩)
  · rcases k6 hkd with rfl | rfl | rfl | rfl | rfl | rfl
    · skip
      refine j_iload_n (pc := 0) hK dX0_as_0 rfl ?_
      refine j_tableIn (pc := 1) (tgt := 46) hK dX0_as_1 (by decide) (by decide) rfl (by decide) ?_
      refine j_aload_n (pc := 46) hK dX0_as_46 rfl ?_
      exact j_castNo (pc := 47) hK hQ q147 (nc_Boat_Leaky hK.g) (dot_len _ (by decide)) (dot_len _ (by decide)) (by decide +kernel) (by decide +kernel) (IsC.cellC (C := "BoatsCalledIn$Boat") hK (fun h w => by obtain ⟨n, e⟩ := hv h w; exact ⟨8, _, _, e, rfl, rfl⟩)) dX0_as_47 (by decide) (by decide) (by decide) (by decide) (nle rfl) (fun h x w hx => Or.inr ⟨x, rfl, h, w, hx, rfl⟩)
    · skip
      refine j_iload_n (pc := 0) hK dX0_as_0 rfl ?_
      refine j_tableIn (pc := 1) (tgt := 46) hK dX0_as_1 (by decide) (by decide) rfl (by decide) ?_
      refine j_aload_n (pc := 46) hK dX0_as_46 rfl ?_
      exact j_castNo (pc := 47) hK hQ q147 (nc_Skiff_Leaky hK.g) (dot_len _ (by decide)) (dot_len _ (by decide)) (by decide +kernel) (by decide +kernel) (IsC.cellC (C := "BoatsCalledIn$Skiff") hK (fun h w => by obtain ⟨n, e⟩ := hv h w; exact ⟨9, _, _, e, rfl, rfl⟩)) dX0_as_47 (by decide) (by decide) (by decide) (by decide) (nle rfl) (fun h x w hx => Or.inr ⟨x, rfl, h, w, hx, rfl⟩)
    · skip
      refine j_iload_n (pc := 0) hK dX0_as_0 rfl ?_
      refine j_tableIn (pc := 1) (tgt := 46) hK dX0_as_1 (by decide) (by decide) rfl (by decide) ?_
      refine j_aload_n (pc := 46) hK dX0_as_46 rfl ?_
      exact j_castNo (pc := 47) hK hQ q147 (nc_Punt_Leaky hK.g) (dot_len _ (by decide)) (dot_len _ (by decide)) (by decide +kernel) (by decide +kernel) (IsC.cellC (C := "BoatsCalledIn$Punt") hK (fun h w => by obtain ⟨n, e⟩ := hv h w; exact ⟨10, _, _, e, rfl, rfl⟩)) dX0_as_47 (by decide) (by decide) (by decide) (by decide) (nle rfl) (fun h x w hx => Or.inr ⟨x, rfl, h, w, hx, rfl⟩)
    · exact absurd (by rw [asOk_dec]; decide) hok
    · skip
      refine j_iload_n (pc := 0) hK dX0_as_0 rfl ?_
      refine j_tableIn (pc := 1) (tgt := 46) hK dX0_as_1 (by decide) (by decide) rfl (by decide) ?_
      refine j_aload_n (pc := 46) hK dX0_as_46 rfl ?_
      exact j_castNo (pc := 47) hK hQ q147 (nc_Deaf_Leaky hK.g) (dot_len _ (by decide)) (dot_len _ (by decide)) (by decide +kernel) (by decide +kernel) (IsC.cellC (C := "BoatsCalledIn$Deaf") hK (fun h w => by obtain ⟨n, e⟩ := hv h w; exact ⟨12, _, _, e, rfl, rfl⟩)) dX0_as_47 (by decide) (by decide) (by decide) (by decide) (nle rfl) (fun h x w hx => Or.inr ⟨x, rfl, h, w, hx, rfl⟩)
    · skip
      refine j_iload_n (pc := 0) hK dX0_as_0 rfl ?_
      refine j_tableIn (pc := 1) (tgt := 46) hK dX0_as_1 (by decide) (by decide) rfl (by decide) ?_
      refine j_aload_n (pc := 46) hK dX0_as_46 rfl ?_
      exact j_castNo (pc := 47) hK hQ q147 (nc_Lovers_Leaky hK.g) (dot_len _ (by decide)) (dot_len _ (by decide)) (by decide +kernel) (by decide +kernel) (IsC.cellC (C := "BoatsCalledIn$Lovers") hK (fun h w => by obtain ⟨n, e⟩ := hv h w; exact ⟨13, _, _, e, rfl, rfl⟩)) dX0_as_47 (by decide) (by decide) (by decide) (by decide) (nle rfl) (fun h x w hx => Or.inr ⟨x, rfl, h, w, hx, rfl⟩)
  · rcases k6 hkd with rfl | rfl | rfl | rfl | rfl | rfl
    · skip
      refine j_iload_n (pc := 0) hK dX0_as_0 rfl ?_
      refine j_tableIn (pc := 1) (tgt := 51) hK dX0_as_1 (by decide) (by decide) rfl (by decide) ?_
      refine j_aload_n (pc := 51) hK dX0_as_51 rfl ?_
      exact j_castNo (pc := 52) hK hQ q155 (nc_Boat_Deaf hK.g) (dot_len _ (by decide)) (dot_len _ (by decide)) (by decide +kernel) (by decide +kernel) (IsC.cellC (C := "BoatsCalledIn$Boat") hK (fun h w => by obtain ⟨n, e⟩ := hv h w; exact ⟨8, _, _, e, rfl, rfl⟩)) dX0_as_52 (by decide) (by decide) (by decide) (by decide) (nle rfl) (fun h x w hx => Or.inr ⟨x, rfl, h, w, hx, rfl⟩)
    · skip
      refine j_iload_n (pc := 0) hK dX0_as_0 rfl ?_
      refine j_tableIn (pc := 1) (tgt := 51) hK dX0_as_1 (by decide) (by decide) rfl (by decide) ?_
      refine j_aload_n (pc := 51) hK dX0_as_51 rfl ?_
      exact j_castNo (pc := 52) hK hQ q155 (nc_Skiff_Deaf hK.g) (dot_len _ (by decide)) (dot_len _ (by decide)) (by decide +kernel) (by decide +kernel) (IsC.cellC (C := "BoatsCalledIn$Skiff") hK (fun h w => by obtain ⟨n, e⟩ := hv h w; exact ⟨9, _, _, e, rfl, rfl⟩)) dX0_as_52 (by decide) (by decide) (by decide) (by decide) (nle rfl) (fun h x w hx => Or.inr ⟨x, rfl, h, w, hx, rfl⟩)
    · skip
      refine j_iload_n (pc := 0) hK dX0_as_0 rfl ?_
      refine j_tableIn (pc := 1) (tgt := 51) hK dX0_as_1 (by decide) (by decide) rfl (by decide) ?_
      refine j_aload_n (pc := 51) hK dX0_as_51 rfl ?_
      exact j_castNo (pc := 52) hK hQ q155 (nc_Punt_Deaf hK.g) (dot_len _ (by decide)) (dot_len _ (by decide)) (by decide +kernel) (by decide +kernel) (IsC.cellC (C := "BoatsCalledIn$Punt") hK (fun h w => by obtain ⟨n, e⟩ := hv h w; exact ⟨10, _, _, e, rfl, rfl⟩)) dX0_as_52 (by decide) (by decide) (by decide) (by decide) (nle rfl) (fun h x w hx => Or.inr ⟨x, rfl, h, w, hx, rfl⟩)
    · skip
      refine j_iload_n (pc := 0) hK dX0_as_0 rfl ?_
      refine j_tableIn (pc := 1) (tgt := 51) hK dX0_as_1 (by decide) (by decide) rfl (by decide) ?_
      refine j_aload_n (pc := 51) hK dX0_as_51 rfl ?_
      exact j_castNo (pc := 52) hK hQ q155 (nc_Leaky_Deaf hK.g) (dot_len _ (by decide)) (dot_len _ (by decide)) (by decide +kernel) (by decide +kernel) (IsC.cellC (C := "BoatsCalledIn$Leaky") hK (fun h w => by obtain ⟨n, e⟩ := hv h w; exact ⟨11, _, _, e, rfl, rfl⟩)) dX0_as_52 (by decide) (by decide) (by decide) (by decide) (nle rfl) (fun h x w hx => Or.inr ⟨x, rfl, h, w, hx, rfl⟩)
    · exact absurd (by rw [asOk_dec]; decide) hok
    · skip
      refine j_iload_n (pc := 0) hK dX0_as_0 rfl ?_
      refine j_tableIn (pc := 1) (tgt := 51) hK dX0_as_1 (by decide) (by decide) rfl (by decide) ?_
      refine j_aload_n (pc := 51) hK dX0_as_51 rfl ?_
      exact j_castNo (pc := 52) hK hQ q155 (nc_Lovers_Deaf hK.g) (dot_len _ (by decide)) (dot_len _ (by decide)) (by decide +kernel) (by decide +kernel) (IsC.cellC (C := "BoatsCalledIn$Lovers") hK (fun h w => by obtain ⟨n, e⟩ := hv h w; exact ⟨13, _, _, e, rfl, rfl⟩)) dX0_as_52 (by decide) (by decide) (by decide) (by decide) (nle rfl) (fun h x w hx => Or.inr ⟨x, rfl, h, w, hx, rfl⟩)
  · rcases k6 hkd with rfl | rfl | rfl | rfl | rfl | rfl
    · skip
      refine j_iload_n (pc := 0) hK dX0_as_0 rfl ?_
      refine j_tableIn (pc := 1) (tgt := 56) hK dX0_as_1 (by decide) (by decide) rfl (by decide) ?_
      refine j_aload_n (pc := 56) hK dX0_as_56 rfl ?_
      exact j_castNo (pc := 57) hK hQ q163 (nc_Boat_Lovers hK.g) (dot_len _ (by decide)) (dot_len _ (by decide)) (by decide +kernel) (by decide +kernel) (IsC.cellC (C := "BoatsCalledIn$Boat") hK (fun h w => by obtain ⟨n, e⟩ := hv h w; exact ⟨8, _, _, e, rfl, rfl⟩)) dX0_as_57 (by decide) (by decide) (by decide) (by decide) (nle rfl) (fun h x w hx => Or.inr ⟨x, rfl, h, w, hx, rfl⟩)
    · skip
      refine j_iload_n (pc := 0) hK dX0_as_0 rfl ?_
      refine j_tableIn (pc := 1) (tgt := 56) hK dX0_as_1 (by decide) (by decide) rfl (by decide) ?_
      refine j_aload_n (pc := 56) hK dX0_as_56 rfl ?_
      exact j_castNo (pc := 57) hK hQ q163 (nc_Skiff_Lovers hK.g) (dot_len _ (by decide)) (dot_len _ (by decide)) (by decide +kernel) (by decide +kernel) (IsC.cellC (C := "BoatsCalledIn$Skiff") hK (fun h w => by obtain ⟨n, e⟩ := hv h w; exact ⟨9, _, _, e, rfl, rfl⟩)) dX0_as_57 (by decide) (by decide) (by decide) (by decide) (nle rfl) (fun h x w hx => Or.inr ⟨x, rfl, h, w, hx, rfl⟩)
    · skip
      refine j_iload_n (pc := 0) hK dX0_as_0 rfl ?_
      refine j_tableIn (pc := 1) (tgt := 56) hK dX0_as_1 (by decide) (by decide) rfl (by decide) ?_
      refine j_aload_n (pc := 56) hK dX0_as_56 rfl ?_
      exact j_castNo (pc := 57) hK hQ q163 (nc_Punt_Lovers hK.g) (dot_len _ (by decide)) (dot_len _ (by decide)) (by decide +kernel) (by decide +kernel) (IsC.cellC (C := "BoatsCalledIn$Punt") hK (fun h w => by obtain ⟨n, e⟩ := hv h w; exact ⟨10, _, _, e, rfl, rfl⟩)) dX0_as_57 (by decide) (by decide) (by decide) (by decide) (nle rfl) (fun h x w hx => Or.inr ⟨x, rfl, h, w, hx, rfl⟩)
    · skip
      refine j_iload_n (pc := 0) hK dX0_as_0 rfl ?_
      refine j_tableIn (pc := 1) (tgt := 56) hK dX0_as_1 (by decide) (by decide) rfl (by decide) ?_
      refine j_aload_n (pc := 56) hK dX0_as_56 rfl ?_
      exact j_castNo (pc := 57) hK hQ q163 (nc_Leaky_Lovers hK.g) (dot_len _ (by decide)) (dot_len _ (by decide)) (by decide +kernel) (by decide +kernel) (IsC.cellC (C := "BoatsCalledIn$Leaky") hK (fun h w => by obtain ⟨n, e⟩ := hv h w; exact ⟨11, _, _, e, rfl, rfl⟩)) dX0_as_57 (by decide) (by decide) (by decide) (by decide) (nle rfl) (fun h x w hx => Or.inr ⟨x, rfl, h, w, hx, rfl⟩)
    · skip
      refine j_iload_n (pc := 0) hK dX0_as_0 rfl ?_
      refine j_tableIn (pc := 1) (tgt := 56) hK dX0_as_1 (by decide) (by decide) rfl (by decide) ?_
      refine j_aload_n (pc := 56) hK dX0_as_56 rfl ?_
      exact j_castNo (pc := 57) hK hQ q163 (nc_Deaf_Lovers hK.g) (dot_len _ (by decide)) (dot_len _ (by decide)) (by decide +kernel) (by decide +kernel) (IsC.cellC (C := "BoatsCalledIn$Deaf") hK (fun h w => by obtain ⟨n, e⟩ := hv h w; exact ⟨12, _, _, e, rfl, rfl⟩)) dX0_as_57 (by decide) (by decide) (by decide) (by decide) (nle rfl) (fun h x w hx => Or.inr ⟨x, rfl, h, w, hx, rfl⟩)
    · exact absurd (by rw [asOk_dec]; decide) hok
theorem c_Xtaken {b k : Int32} (hV : XV f g T) : Ct Γ A yX0_taken wX0_taken 176 3 1610 [.ref (L 35), .int b, .int k] (XI Γ L f g T TT) (RI fun r h => r = oTaken f g b k ∧ XI Γ L f g T TT h) := by
  obtain ⟨hN, hBB, ho⟩ := hV
  refine Ct.ofW (cc := cX0_taken) (nL := 4) (ret := (some .int)) (hh := hX0_taken) (ls := [some (.ref (L 35)), some (.int b), some (.int k), none]) rfl rfl rfl (nle rfl) ?_
  intro K hK hQ
  by_cases hk : 0 ≤ k ∧ k ≤ 5
  · skip
    by_cases hbb : 0 ≤ b ∧ b ≤ f 0 - 1
    · have hb := bo_of hbb hN
      have hB := hBB _ hb
      have ek : nI (g 1 b).toNatClampNeg = g 1 b := nI_cl (Int32.not_lt.mpr hB.1)
      have bt := xi_bta (Γ := Γ) (L := L) (T := T) (φ := TT) (fun _ w => w) hb hB
      by_cases hok : asOk (g 1 b) k
      · skip
        refine j_iload_n (pc := 0) hK dX0_taken_0 rfl ?_
        refine j_i2l (pc := 1) hK dX0_taken_1 ?_
        refine j_lconst (pc := 2) (v := 0) hK dX0_taken_2 (by decide) ?_
        refine j_ldc2 (pc := 3) hK q105 dX0_taken_3 ?_
        refine j_callS (pc := 6) hK hQ (c_Xin (l := 0) (u := 5) (by decide) (by decide)) cal_X0_in q106 dX0_taken_6 rfl rfl (nle rfl) (nle rfl) (nle rfl) (nle rfl) (kr_i fun r6 => ?_) kx_i
        refine J.pre fun e6 => ?_
        subst e6
        refine j_if_ne_b (pc := 9) (tgt := 15) hK dX0_taken_9 (by decide) (fun c9 => ?_) (fun c9 => absurd hk c9)
        refine j_aload_n (pc := 15) hK dX0_taken_15 rfl ?_
        refine j_iload_n (pc := 16) hK dX0_taken_16 rfl ?_
        refine j_callV (pc := 17) hK hQ (c_XisBoat (fun _ w => w) _) cal_X0_isBoat (xi_isC (fun _ w => w)) q186 dX0_taken_17 rfl rfl (nle rfl) (nle rfl) (nle rfl) (nle rfl) (kr_i fun r17 => ?_) kx_i
        refine J.pre fun e17 => ?_
        subst e17
        refine j_if_eq_b (pc := 20) (tgt := 32) hK dX0_taken_20 (by decide) (fun c20 => absurd hbb c20) (fun c20 => ?_)
        refine j_aload_n (pc := 23) hK dX0_taken_23 rfl ?_
        refine xi_getR (pc := 24) (k := 0) hK (fun _ w => w) (by decide) rfl q747 rfl dX0_taken_24 ?_
        refine j_iload_n (pc := 27) hK dX0_taken_27 rfl ?_
        refine xi_baldB (pc := 28) hK (fun _ w => w) hb dX0_taken_28 ?_
        refine j_goto (pc := 29) (tgt := 33) hK dX0_taken_29 (by decide) ?_
        refine j_iload_n (pc := 33) hK dX0_taken_33 rfl ?_
        refine j_callS (pc := 34) hK hQ (c_XasY hk bt.1 (by rw [ek]; exact hok) (fun h w => ⟨_, bt.2 h w⟩)) cal_X0_as q1151 dX0_taken_34 rfl rfl (nle rfl) (nle rfl) (nle rfl) (nle rfl) (kr_r fun r34 => ?_) kx_r
        refine J.pre fun e34 => ?_
        subst e34
        refine b_num (pc := 37) hK (xi_bta (fun _ w => w) hb hB) q135 (Or.inl rfl) dX0_taken_37 ?_
        exact j_iret (pc := 40) hK hQ (nle rfl) (nle rfl) dX0_taken_40 (fun h w => ⟨_, rfl, by unfold oTaken; rw [if_neg (fun z => z hk), if_neg (fun z => z hbb)]; exact (if_pos hok).symm, w⟩)
      · have hand : ∀ e cs ss, cs ≤ 3 → ss ≤ 1610 → J Γ A K 45 [some (.ref (L 35)), some (.int b), some (.int k), none] [.ref e] (NBg (XI Γ L f g T TT) e (.inr (16, []))) cs ss := by
          intro e cs ss hc hss
          refine j_ast3 (pc := 45) hK dX0_taken_45 (by decide) rfl ?_
          refine j_bipush (pc := 46) (v := (-13)) hK dX0_taken_46 (by decide) ?_
          exact j_iret (pc := 48) hK hQ hc hss dX0_taken_48 (fun h w => ⟨_, rfl, by unfold oTaken; rw [if_neg (fun z => z hk), if_neg (fun z => z hbb)]; exact (if_neg hok).symm, XI.nb w⟩)
        refine j_iload_n (pc := 0) hK dX0_taken_0 rfl ?_
        refine j_i2l (pc := 1) hK dX0_taken_1 ?_
        refine j_lconst (pc := 2) (v := 0) hK dX0_taken_2 (by decide) ?_
        refine j_ldc2 (pc := 3) hK q105 dX0_taken_3 ?_
        refine j_callS (pc := 6) hK hQ (c_Xin (l := 0) (u := 5) (by decide) (by decide)) cal_X0_in q106 dX0_taken_6 rfl rfl (nle rfl) (nle rfl) (nle rfl) (nle rfl) (kr_i fun r6 => ?_) kx_i
        refine J.pre fun e6 => ?_
        subst e6
        refine j_if_ne_b (pc := 9) (tgt := 15) hK dX0_taken_9 (by decide) (fun c9 => ?_) (fun c9 => absurd hk c9)
        refine j_aload_n (pc := 15) hK dX0_taken_15 rfl ?_
        refine j_iload_n (pc := 16) hK dX0_taken_16 rfl ?_
        refine j_callV (pc := 17) hK hQ (c_XisBoat (fun _ w => w) _) cal_X0_isBoat (xi_isC (fun _ w => w)) q186 dX0_taken_17 rfl rfl (nle rfl) (nle rfl) (nle rfl) (nle rfl) (kr_i fun r17 => ?_) kx_i
        refine J.pre fun e17 => ?_
        subst e17
        refine j_if_eq_b (pc := 20) (tgt := 32) hK dX0_taken_20 (by decide) (fun c20 => absurd hbb c20) (fun c20 => ?_)
        refine j_aload_n (pc := 23) hK dX0_taken_23 rfl ?_
        refine xi_getR (pc := 24) (k := 0) hK (fun _ w => w) (by decide) rfl q747 rfl dX0_taken_24 ?_
        refine j_iload_n (pc := 27) hK dX0_taken_27 rfl ?_
        refine xi_baldB (pc := 28) hK (fun _ w => w) hb dX0_taken_28 ?_
        refine j_goto (pc := 29) (tgt := 33) hK dX0_taken_29 (by decide) ?_
        refine j_iload_n (pc := 33) hK dX0_taken_33 rfl ?_
        refine j_callS (pc := 34) hK hQ (c_XasX hk bt.1 (by rw [ek]; exact hok) (fun h w => ⟨_, bt.2 h w⟩)) cal_X0_as q1151 dX0_taken_34 rfl rfl (nle rfl) (nle rfl) (nle rfl) (nle rfl) (kr_t (kr_r fun r34 => ?_)) (kx_t nt_r fun e => jt_catch2 hK ⟨15, 40, 41, 476⟩ ⟨15, 40, 45, 487⟩ [] rfl rfl (by decide) (by decide) q1080 q1128 (nc_ClassCastException_NullPointerException hK.g) (IsC.cellC hK (ex_isC (P := XI Γ L f g T TT) (ci := 16) (r := (RJ14, TJ10, 0)) rfl rfl)) (hand e _ _ (nle rfl) (nle rfl)))
        exact J.void (fun _ z => z)
    · have hand : ∀ e cs ss, cs ≤ 3 → ss ≤ 1610 → J Γ A K 41 [some (.ref (L 35)), some (.int b), some (.int k), none] [.ref e] (NBg (XI Γ L f g T TT) e (.inr (15, []))) cs ss := by
        intro e cs ss hc hss
        refine j_ast3 (pc := 41) hK dX0_taken_41 (by decide) rfl ?_
        refine j_bipush (pc := 42) (v := (-11)) hK dX0_taken_42 (by decide) ?_
        exact j_iret (pc := 44) hK hQ hc hss dX0_taken_44 (fun h w => ⟨_, rfl, by unfold oTaken; rw [if_neg (fun z => z hk), if_pos hbb], XI.nb w⟩)
      refine j_iload_n (pc := 0) hK dX0_taken_0 rfl ?_
      refine j_i2l (pc := 1) hK dX0_taken_1 ?_
      refine j_lconst (pc := 2) (v := 0) hK dX0_taken_2 (by decide) ?_
      refine j_ldc2 (pc := 3) hK q105 dX0_taken_3 ?_
      refine j_callS (pc := 6) hK hQ (c_Xin (l := 0) (u := 5) (by decide) (by decide)) cal_X0_in q106 dX0_taken_6 rfl rfl (nle rfl) (nle rfl) (nle rfl) (nle rfl) (kr_i fun r6 => ?_) kx_i
      refine J.pre fun e6 => ?_
      subst e6
      refine j_if_ne_b (pc := 9) (tgt := 15) hK dX0_taken_9 (by decide) (fun c9 => ?_) (fun c9 => absurd hk c9)
      refine j_aload_n (pc := 15) hK dX0_taken_15 rfl ?_
      refine j_iload_n (pc := 16) hK dX0_taken_16 rfl ?_
      refine j_callV (pc := 17) hK hQ (c_XisBoat (fun _ w => w) _) cal_X0_isBoat (xi_isC (fun _ w => w)) q186 dX0_taken_17 rfl rfl (nle rfl) (nle rfl) (nle rfl) (nle rfl) (kr_i fun r17 => ?_) kx_i
      refine J.pre fun e17 => ?_
      subst e17
      refine j_if_eq_b (pc := 20) (tgt := 32) hK dX0_taken_20 (by decide) (fun c20 => ?_) (fun c20 => absurd c20 hbb)
      refine j_null (pc := 32) hK dX0_taken_32 ?_
      refine j_iload_n (pc := 33) hK dX0_taken_33 rfl ?_
      refine j_callS (pc := 34) hK hQ (c_XasN hk) cal_X0_as q1151 dX0_taken_34 rfl rfl (nle rfl) (nle rfl) (nle rfl) (nle rfl) (kr_r fun r34 => ?_) kx_r
      refine J.pre fun e34 => ?_
      subst e34
      exact j_getNull (pc := 37) (ci := 8) (T := TX9) (k := 0) hK hQ rfl in_X9 (by decide) q135 (b_same hK (Or.inl rfl)) dX0_taken_37 (by decide) (by decide) (by decide) (nle rfl) (fun e => jt_catch hK ⟨15, 40, 41, 476⟩ [⟨15, 40, 45, 487⟩] rfl rfl (by decide) q1080 (IsC.cellC hK (ex_isC (P := XI Γ L f g T TT) (ci := 15) (r := (RJ12, TJ10, 0)) rfl rfl)) (hand e _ _ (nle rfl) (nle rfl)))
  · skip
    refine j_iload_n (pc := 0) hK dX0_taken_0 rfl ?_
    refine j_i2l (pc := 1) hK dX0_taken_1 ?_
    refine j_lconst (pc := 2) (v := 0) hK dX0_taken_2 (by decide) ?_
    refine j_ldc2 (pc := 3) hK q105 dX0_taken_3 ?_
    refine j_callS (pc := 6) hK hQ (c_Xin (l := 0) (u := 5) (by decide) (by decide)) cal_X0_in q106 dX0_taken_6 rfl rfl (nle rfl) (nle rfl) (nle rfl) (nle rfl) (kr_i fun r6 => ?_) kx_i
    refine J.pre fun e6 => ?_
    subst e6
    refine j_if_ne_b (pc := 9) (tgt := 15) hK dX0_taken_9 (by decide) (fun c9 => absurd c9 hk) (fun c9 => ?_)
    refine j_bipush (pc := 12) (v := (-2)) hK dX0_taken_12 (by decide) ?_
    exact j_iret (pc := 14) hK hQ (nle rfl) (nle rfl) dX0_taken_14 (fun h w => ⟨_, rfl, by unfold oTaken; rw [if_pos hk], w⟩)
end P9A
