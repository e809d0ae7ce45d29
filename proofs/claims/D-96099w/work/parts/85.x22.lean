/-! the class's rows of a sort: sortOf, lengthOf, asksPlace, item, rowOf, where nothing is thrown -/
set_option maxRecDepth 100000
section P85
variable {Γ : Gam} {A : Nat → Prop} {L : Nat → Nat} {f : Nat → Int32} {g : Nat → Int32 → Int32} {T : TX} {P : PH → Prop}
/-- a row of the sort s, of n places, at b -/
def Row (Γ : Gam) (P : PH → Prop) (b : Nat) (s : Int32) (n : Nat) (F : Nat → Int32) : Prop := ∀ h, P h → h b = some (.inl (gA Γ (srt s), n, .inl F))
theorem cellB {K : JC} {cc : ByteArray} {nL : Nat} {own : String} {hh : List (Nat × Nat × Nat × Nat)} {b : Nat} (hK : Jok Γ A K cc nL own hh) (hv : ∀ h, P h → ∃ x, h b = some (.inl (gA Γ 1, x))) : CellC Γ A K P b "[B" := CellC.arr (t := 1) (ty := .byte) hK rfl (fun _ _ h => h) hv
theorem cellS {K : JC} {cc : ByteArray} {nL : Nat} {own : String} {hh : List (Nat × Nat × Nat × Nat)} {b : Nat} (hK : Jok Γ A K cc nL own hh) (hv : ∀ h, P h → ∃ x, h b = some (.inl (gA Γ 2, x))) : CellC Γ A K P b "[S" := CellC.arr (t := 2) (ty := .short) hK rfl (fun _ _ h => h) hv
theorem cellI {K : JC} {cc : ByteArray} {nL : Nat} {own : String} {hh : List (Nat × Nat × Nat × Nat)} {b : Nat} (hK : Jok Γ A K cc nL own hh) (hv : ∀ h, P h → ∃ x, h b = some (.inl (gA Γ 0, x))) : CellC Γ A K P b "[I" := CellC.arr (t := 0) (ty := .int) hK rfl (fun _ _ h => h) hv
theorem c_XsortOf {b n : Nat} {s : Int32} {F : Nat → Int32} (hs : s = 0 ∨ s = 1 ∨ s = 2) (hv : Row Γ P b s n F) : Ct Γ A yX0_sortOf wX0_sortOf 1 0 0 [.ref b] P (RI fun r h => r = s ∧ P h) := by
  refine Ct.of (cc := cX0_sortOf) (nL := 1) (ret := (some .int)) (ls := [some (.ref b)]) rfl rfl rfl (nle rfl) ?_
  intro K hK hQ
  rcases hs with rfl | rfl | rfl
  · skip
    refine j_aload_n (pc := 0) hK dX0_sortOf_0 rfl ?_
    refine j_inst1 (pc := 1) hK q970 (cellB hK fun h w => ⟨_, hv h w⟩) dX0_sortOf_1 ?_
    refine j_if_eq (pc := 4) (tgt := 11) hK dX0_sortOf_4 (by decide) (fun c4 => absurd c4 (by decide)) (fun c4 => ?_)
    refine j_iconst (pc := 7) (v := 0) hK dX0_sortOf_7 (by decide) ?_
    refine j_goto (pc := 8) (tgt := 23) hK dX0_sortOf_8 (by decide) ?_
    exact j_iret (pc := 23) hK hQ (nle rfl) (nle rfl) dX0_sortOf_23 (fun h w => ⟨_, rfl, rfl, w⟩)
  · skip
    refine j_aload_n (pc := 0) hK dX0_sortOf_0 rfl ?_
    refine j_inst0 (pc := 1) hK q970 (nc_aS_aB hK.g) (cellS hK fun h w => ⟨_, hv h w⟩) dX0_sortOf_1 ?_
    refine j_if_eq (pc := 4) (tgt := 11) hK dX0_sortOf_4 (by decide) (fun c4 => ?_) (fun c4 => absurd (by decide) c4)
    refine j_aload_n (pc := 11) hK dX0_sortOf_11 rfl ?_
    refine j_inst1 (pc := 12) hK q971 (cellS hK fun h w => ⟨_, hv h w⟩) dX0_sortOf_12 ?_
    refine j_if_eq (pc := 15) (tgt := 22) hK dX0_sortOf_15 (by decide) (fun c15 => absurd c15 (by decide)) (fun c15 => ?_)
    refine j_iconst (pc := 18) (v := 1) hK dX0_sortOf_18 (by decide) ?_
    refine j_goto (pc := 19) (tgt := 23) hK dX0_sortOf_19 (by decide) ?_
    exact j_iret (pc := 23) hK hQ (nle rfl) (nle rfl) dX0_sortOf_23 (fun h w => ⟨_, rfl, rfl, w⟩)
  · skip
    refine j_aload_n (pc := 0) hK dX0_sortOf_0 rfl ?_
    refine j_inst0 (pc := 1) hK q970 (nc_aI_aB hK.g) (cellI hK fun h w => ⟨_, hv h w⟩) dX0_sortOf_1 ?_
    refine j_if_eq (pc := 4) (tgt := 11) hK dX0_sortOf_4 (by decide) (fun c4 => ?_) (fun c4 => absurd (by decide) c4)
    refine j_aload_n (pc := 11) hK dX0_sortOf_11 rfl ?_
    refine j_inst0 (pc := 12) hK q971 (nc_aI_aS hK.g) (cellI hK fun h w => ⟨_, hv h w⟩) dX0_sortOf_12 ?_
    refine j_if_eq (pc := 15) (tgt := 22) hK dX0_sortOf_15 (by decide) (fun c15 => ?_) (fun c15 => absurd (by decide) c15)
    refine j_iconst (pc := 22) (v := 2) hK dX0_sortOf_22 (by decide) ?_
    exact j_iret (pc := 23) hK hQ (nle rfl) (nle rfl) dX0_sortOf_23 (fun h w => ⟨_, rfl, rfl, w⟩)
theorem c_XlengthOf {b n : Nat} {s : Int32} {F : Nat → Int32} (hs : s = 0 ∨ s = 1 ∨ s = 2) (hv : Row Γ P b s n F) : Ct Γ A yX0_lengthOf wX0_lengthOf 1 0 0 [.ref b, .int s] P (RI fun r h => r = nI n ∧ P h) := by
  refine Ct.of (cc := cX0_lengthOf) (nL := 2) (ret := (some .int)) (ls := [some (.ref b), some (.int s)]) rfl rfl rfl (nle rfl) ?_
  intro K hK hQ
  rcases hs with rfl | rfl | rfl
  · skip
    refine j_iload_n (pc := 0) hK dX0_lengthOf_0 rfl ?_
    refine j_lookup (pc := 1) (tgt := 28) hK dX0_lengthOf_1 (by decide +kernel) (off := 27) (by decide +kernel) (by decide) ?_
    refine j_aload_n (pc := 28) hK dX0_lengthOf_28 rfl ?_
    refine j_cast1 (pc := 29) hK q970 (cellB hK fun h w => ⟨_, hv h w⟩) dX0_lengthOf_29 ?_
    refine j_alen (pc := 32) (t := 1) (v := nI n) hK rfl dX0_lengthOf_32 (fun h w => ⟨_, hv h w, rfl⟩) ?_
    exact j_iret (pc := 33) hK hQ (nle rfl) (nle rfl) dX0_lengthOf_33 (fun h w => ⟨_, rfl, rfl, w⟩)
  · skip
    refine j_iload_n (pc := 0) hK dX0_lengthOf_0 rfl ?_
    refine j_lookup (pc := 1) (tgt := 34) hK dX0_lengthOf_1 (by decide +kernel) (off := 33) (by decide +kernel) (by decide) ?_
    refine j_aload_n (pc := 34) hK dX0_lengthOf_34 rfl ?_
    refine j_cast1 (pc := 35) hK q971 (cellS hK fun h w => ⟨_, hv h w⟩) dX0_lengthOf_35 ?_
    refine j_alen (pc := 38) (t := 2) (v := nI n) hK rfl dX0_lengthOf_38 (fun h w => ⟨_, hv h w, rfl⟩) ?_
    exact j_iret (pc := 39) hK hQ (nle rfl) (nle rfl) dX0_lengthOf_39 (fun h w => ⟨_, rfl, rfl, w⟩)
  · skip
    refine j_iload_n (pc := 0) hK dX0_lengthOf_0 rfl ?_
    refine j_lookup (pc := 1) (tgt := 40) hK dX0_lengthOf_1 (by decide +kernel) (off := 39) (by decide +kernel) (by decide) ?_
    refine j_aload_n (pc := 40) hK dX0_lengthOf_40 rfl ?_
    refine j_cast1 (pc := 41) hK q975 (cellI hK fun h w => ⟨_, hv h w⟩) dX0_lengthOf_41 ?_
    refine j_alen (pc := 44) (t := 0) (v := nI n) hK rfl dX0_lengthOf_44 (fun h w => ⟨_, hv h w, rfl⟩) ?_
    exact j_iret (pc := 45) hK hQ (nle rfl) (nle rfl) dX0_lengthOf_45 (fun h w => ⟨_, rfl, rfl, w⟩)
theorem c_XasksPlace {i n : Int32} (h0 : 0 ≤ i) (h1 : i < n) : Ct Γ A yX0_asksPlace wX0_asksPlace 1 0 0 [.int i, .int n] P (RV P) := by
  refine Ct.of (cc := cX0_asksPlace) (nL := 2) (ret := none) (ls := [some (.int i), some (.int n)]) rfl rfl rfl (nle rfl) ?_
  intro K hK hQ
  refine j_iload_n (pc := 0) hK dX0_asksPlace_0 rfl ?_
  refine j_if_lt (pc := 1) (tgt := 9) hK dX0_asksPlace_1 (by decide) (fun c1 => absurd c1 (Int32.not_lt.mpr h0)) (fun c1 => ?_)
  refine j_iload_n (pc := 4) hK dX0_asksPlace_4 rfl ?_
  refine j_iload_n (pc := 5) hK dX0_asksPlace_5 rfl ?_
  refine j_icmp_lt (pc := 6) (tgt := 17) hK dX0_asksPlace_6 (by decide) (fun c6 => ?_) (fun c6 => absurd h1 c6)
  exact j_vret (pc := 17) hK hQ (nle rfl) (nle rfl) dX0_asksPlace_17 (fun h w => ⟨rfl, w⟩)
theorem c_Xitem {b n : Nat} {s i : Int32} {F : Nat → Int32} (hs : s = 0 ∨ s = 1 ∨ s = 2) (hv : Row Γ P b s n F) (h0 : 0 ≤ i) (h1 : i < nI n) (hn : n < 2 ^ 31) : Ct Γ A yX0_item wX0_item 2 0 0 [.ref b, .int s, .int i] P (RI fun r h => r = F i.toNatClampNeg ∧ P h) := by
  refine Ct.of (cc := cX0_item) (nL := 3) (ret := (some .int)) (ls := [some (.ref b), some (.int s), some (.int i)]) rfl rfl rfl (nle rfl) ?_
  intro K hK hQ
  have hi : vp_in i n := by
    obtain ⟨k, hk, rfl⟩ := nI_of (Int32.not_lt.mpr h0)
    exact vp_in_nI ((nI_ltI hk hn).mp h1) hn
  rcases hs with rfl | rfl | rfl
  · skip
    refine j_iload_n (pc := 0) hK dX0_item_0 rfl ?_
    refine j_lookup (pc := 1) (tgt := 28) hK dX0_item_1 (by decide +kernel) (off := 27) (by decide +kernel) (by decide) ?_
    refine j_iload_n (pc := 28) hK dX0_item_28 rfl ?_
    refine j_aload_n (pc := 29) hK dX0_item_29 rfl ?_
    refine j_cast1 (pc := 30) hK q970 (cellB hK fun h w => ⟨_, hv h w⟩) dX0_item_30 ?_
    refine j_alen (pc := 33) (t := 1) (v := nI n) hK rfl dX0_item_33 (fun h w => ⟨_, hv h w, rfl⟩) ?_
    refine j_callS (pc := 34) hK hQ (c_XasksPlace h0 h1) cal_X0_asksPlace q979 dX0_item_34 rfl rfl (nle rfl) (nle rfl) (nle rfl) (nle rfl) (kr_v ?_) kx_v
    refine j_aload_n (pc := 37) hK dX0_item_37 rfl ?_
    refine j_cast1 (pc := 38) hK q970 (cellB hK fun h w => ⟨_, hv h w⟩) dX0_item_38 ?_
    refine j_iload_n (pc := 41) hK dX0_item_41 rfl ?_
    refine j_bald (pc := 42) (x := F i.toNatClampNeg) hK dX0_item_42 (fun h w => ⟨_, _, hv h w, hi, rfl⟩) ?_
    exact j_iret (pc := 43) hK hQ (nle rfl) (nle rfl) dX0_item_43 (fun h w => ⟨_, rfl, rfl, w⟩)
  · skip
    refine j_iload_n (pc := 0) hK dX0_item_0 rfl ?_
    refine j_lookup (pc := 1) (tgt := 44) hK dX0_item_1 (by decide +kernel) (off := 43) (by decide +kernel) (by decide) ?_
    refine j_iload_n (pc := 44) hK dX0_item_44 rfl ?_
    refine j_aload_n (pc := 45) hK dX0_item_45 rfl ?_
    refine j_cast1 (pc := 46) hK q971 (cellS hK fun h w => ⟨_, hv h w⟩) dX0_item_46 ?_
    refine j_alen (pc := 49) (t := 2) (v := nI n) hK rfl dX0_item_49 (fun h w => ⟨_, hv h w, rfl⟩) ?_
    refine j_callS (pc := 50) hK hQ (c_XasksPlace h0 h1) cal_X0_asksPlace q979 dX0_item_50 rfl rfl (nle rfl) (nle rfl) (nle rfl) (nle rfl) (kr_v ?_) kx_v
    refine j_aload_n (pc := 53) hK dX0_item_53 rfl ?_
    refine j_cast1 (pc := 54) hK q971 (cellS hK fun h w => ⟨_, hv h w⟩) dX0_item_54 ?_
    refine j_iload_n (pc := 57) hK dX0_item_57 rfl ?_
    refine j_sald (pc := 58) (x := F i.toNatClampNeg) hK dX0_item_58 (fun h w => ⟨_, _, hv h w, hi, rfl⟩) ?_
    exact j_iret (pc := 59) hK hQ (nle rfl) (nle rfl) dX0_item_59 (fun h w => ⟨_, rfl, rfl, w⟩)
  · skip
    refine j_iload_n (pc := 0) hK dX0_item_0 rfl ?_
    refine j_lookup (pc := 1) (tgt := 60) hK dX0_item_1 (by decide +kernel) (off := 59) (by decide +kernel) (by decide) ?_
    refine j_iload_n (pc := 60) hK dX0_item_60 rfl ?_
    refine j_aload_n (pc := 61) hK dX0_item_61 rfl ?_
    refine j_cast1 (pc := 62) hK q975 (cellI hK fun h w => ⟨_, hv h w⟩) dX0_item_62 ?_
    refine j_alen (pc := 65) (t := 0) (v := nI n) hK rfl dX0_item_65 (fun h w => ⟨_, hv h w, rfl⟩) ?_
    refine j_callS (pc := 66) hK hQ (c_XasksPlace h0 h1) cal_X0_asksPlace q979 dX0_item_66 rfl rfl (nle rfl) (nle rfl) (nle rfl) (nle rfl) (kr_v ?_) kx_v
    refine j_aload_n (pc := 69) hK dX0_item_69 rfl ?_
    refine j_cast1 (pc := 70) hK q975 (cellI hK fun h w => ⟨_, hv h w⟩) dX0_item_70 ?_
    refine j_iload_n (pc := 73) hK dX0_item_73 rfl ?_
    refine j_iald (pc := 74) (x := F i.toNatClampNeg) hK dX0_item_74 (fun h w => ⟨_, _, hv h w, hi, rfl⟩) ?_
    exact j_iret (pc := 75) hK hQ (nle rfl) (nle rfl) dX0_item_75 (fun h w => ⟨_, rfl, rfl, w⟩)
theorem c_XrowOf {n : Nat} {s : Int32} (hs : s = 0 ∨ s = 1 ∨ s = 2) (hn : n ≤ 40) : Ct Γ A yX0_rowOf wX0_rowOf 1 1 40 [.int s, .int (nI n)] P (RR fun r h => ∃ a, r = .ref a ∧ NBg P a (.inl (gA Γ (srt s), n, .inl fun _ => 0)) h) := by
  refine Ct.of (cc := cX0_rowOf) (nL := 2) (ret := (some (.object "java/lang/Object"))) (ls := [some (.int s), some (.int (nI n))]) rfl rfl rfl (nle rfl) ?_
  intro K hK hQ
  rcases hs with rfl | rfl | rfl
  · skip
    refine j_iload_n (pc := 0) hK dX0_rowOf_0 rfl ?_
    refine j_lookup (pc := 1) (tgt := 28) hK dX0_rowOf_1 (by decide +kernel) (off := 27) (by decide +kernel) (by decide) ?_
    refine j_iload_n (pc := 28) hK dX0_rowOf_28 rfl ?_
    refine j_newa (pc := 29) (atype := .byte) (x := (n, .inl (fun _ => 0))) (t := 1) (N := n) hK hQ q569 rfl rfl (fun _ _ h => h) (fun cA => by rfl) (nI_pos (by omega)) (nI_clamp (by omega)) (by show n * 1 ≤ _; omega) (nle rfl) (by omega) dX0_rowOf_29 (fun a => ?_)
    exact j_aret (pc := 31) hK hQ (Or.inl ⟨_, rfl⟩) (Or.inr ⟨_, rfl⟩) (nle rfl) (by omega) dX0_rowOf_31 (fun h w => ⟨_, rfl, _, rfl, w⟩)
  · skip
    refine j_iload_n (pc := 0) hK dX0_rowOf_0 rfl ?_
    refine j_lookup (pc := 1) (tgt := 32) hK dX0_rowOf_1 (by decide +kernel) (off := 31) (by decide +kernel) (by decide) ?_
    refine j_iload_n (pc := 32) hK dX0_rowOf_32 rfl ?_
    refine j_newa (pc := 33) (atype := .short) (x := (n, .inl (fun _ => 0))) (t := 2) (N := n) hK hQ q1075 rfl rfl (fun _ _ h => h) (fun cA => by rfl) (nI_pos (by omega)) (nI_clamp (by omega)) (by show n * 2 ≤ _; omega) (nle rfl) (by omega) dX0_rowOf_33 (fun a => ?_)
    exact j_aret (pc := 35) hK hQ (Or.inl ⟨_, rfl⟩) (Or.inr ⟨_, rfl⟩) (nle rfl) (by omega) dX0_rowOf_35 (fun h w => ⟨_, rfl, _, rfl, w⟩)
  · skip
    refine j_iload_n (pc := 0) hK dX0_rowOf_0 rfl ?_
    refine j_lookup (pc := 1) (tgt := 36) hK dX0_rowOf_1 (by decide +kernel) (off := 35) (by decide +kernel) (by decide) ?_
    refine j_iload_n (pc := 36) hK dX0_rowOf_36 rfl ?_
    refine j_newa (pc := 37) (atype := .int) (x := (n, .inl (fun _ => 0))) (t := 0) (N := n) hK hQ q712 rfl rfl (fun _ _ h => h) (fun cA => by rfl) (nI_pos (by omega)) (nI_clamp (by omega)) (by show n * 4 ≤ _; omega) (nle rfl) (by omega) dX0_rowOf_37 (fun a => ?_)
    exact j_aret (pc := 39) hK hQ (Or.inl ⟨_, rfl⟩) (Or.inr ⟨_, rfl⟩) (nle rfl) (by omega) dX0_rowOf_39 (fun h w => ⟨_, rfl, _, rfl, w⟩)
end P85
