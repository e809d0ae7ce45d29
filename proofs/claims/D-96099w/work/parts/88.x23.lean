/-! the class's rows of a sort: what is thrown -/
set_option maxRecDepth 100000
section P88
variable {Γ : Gam} {A : Nat → Prop} {L : Nat → Nat} {f : Nat → Int32} {g : Nat → Int32 → Int32} {T : TX} {P : PH → Prop}
/-- thrown: a new object of the exception's class lies beside P -/
def TV (P : PH → Prop) (ci : Nat) : Outcome → PH → Prop := RT (RV fun _ => False) (fun x h => NBg P x (.inr (ci, [])) h)
def TI (P : PH → Prop) (ci : Nat) : Outcome → PH → Prop := RT (RI fun _ _ => False) (fun x h => NBg P x (.inr (ci, [])) h)
def TR (P : PH → Prop) (ci : Nat) : Outcome → PH → Prop := RT (RR fun _ _ => False) (fun x h => NBg P x (.inr (ci, [])) h)
theorem c_XasksPlaceX {i n : Int32} (hb : ¬ (0 ≤ i ∧ i < n)) : Ct Γ A yX0_asksPlace wX0_asksPlace 6 1 6 [.int i, .int n] P (TV P 18) := by
  refine Ct.of (cc := cX0_asksPlace) (nL := 2) (ret := none) (ls := [some (.int i), some (.int n)]) rfl rfl rfl (nle rfl) ?_
  intro K hK hQ
  have bad : J Γ A K 9 [some (.int i), some (.int n)] [] P 0 0 := j_throwIdx hK hQ dX0_asksPlace_9 dX0_asksPlace_12 dX0_asksPlace_13 dX0_asksPlace_16 (by decide) (by decide) (by decide) (by decide) (by decide) (fun h x w hx => Or.inr ⟨x, rfl, h, w, hx, rfl⟩)
  refine j_iload_n (pc := 0) hK dX0_asksPlace_0 rfl ?_
  refine j_if_lt (pc := 1) (tgt := 9) hK dX0_asksPlace_1 (by decide) (fun c1 => ?_) (fun c1 => ?_)
  · exact bad
  · refine j_iload_n (pc := 4) hK dX0_asksPlace_4 rfl ?_
    refine j_iload_n (pc := 5) hK dX0_asksPlace_5 rfl ?_
    refine j_icmp_lt (pc := 6) (tgt := 17) hK dX0_asksPlace_6 (by decide) (fun c6 => ?_) (fun c6 => ?_)
    · exact absurd ⟨Int32.not_lt.mp c1, c6⟩ hb
    · exact bad
theorem c_XrowOfN {n s : Int32} (hs : s = 0 ∨ s = 1 ∨ s = 2) (hn : n < 0) : Ct Γ A yX0_rowOf wX0_rowOf 175 3 1610 [.int s, .int n] P (TR P 17) := by
  refine Ct.of (cc := cX0_rowOf) (nL := 2) (ret := (some (.object "java/lang/Object"))) (ls := [some (.int s), some (.int n)]) rfl rfl rfl (nle rfl) ?_
  intro K hK hQ
  rcases hs with rfl | rfl | rfl
  · skip
    refine j_iload_n (pc := 0) hK dX0_rowOf_0 rfl ?_
    refine j_lookup (pc := 1) (tgt := 28) hK dX0_rowOf_1 (by decide +kernel) (off := 27) (by decide +kernel) (by decide) ?_
    refine j_iload_n (pc := 28) hK dX0_rowOf_28 rfl ?_
    exact j_newaNeg hK hQ hn (by first | exact dX0_rowOf_29 | exact dX0_rowOf_33 | exact dX0_rowOf_37) (by decide) (by decide) (by decide) (by decide) (by decide) (fun h x w hx => Or.inr ⟨x, rfl, h, w, hx, rfl⟩)
  · skip
    refine j_iload_n (pc := 0) hK dX0_rowOf_0 rfl ?_
    refine j_lookup (pc := 1) (tgt := 32) hK dX0_rowOf_1 (by decide +kernel) (off := 31) (by decide +kernel) (by decide) ?_
    refine j_iload_n (pc := 32) hK dX0_rowOf_32 rfl ?_
    exact j_newaNeg hK hQ hn (by first | exact dX0_rowOf_29 | exact dX0_rowOf_33 | exact dX0_rowOf_37) (by decide) (by decide) (by decide) (by decide) (by decide) (fun h x w hx => Or.inr ⟨x, rfl, h, w, hx, rfl⟩)
  · skip
    refine j_iload_n (pc := 0) hK dX0_rowOf_0 rfl ?_
    refine j_lookup (pc := 1) (tgt := 36) hK dX0_rowOf_1 (by decide +kernel) (off := 35) (by decide +kernel) (by decide) ?_
    refine j_iload_n (pc := 36) hK dX0_rowOf_36 rfl ?_
    exact j_newaNeg hK hQ hn (by first | exact dX0_rowOf_29 | exact dX0_rowOf_33 | exact dX0_rowOf_37) (by decide) (by decide) (by decide) (by decide) (by decide) (fun h x w hx => Or.inr ⟨x, rfl, h, w, hx, rfl⟩)
theorem c_XlengthOfN {s : Int32} (hs : s = 0 ∨ s = 1 ∨ s = 2) : Ct Γ A yX0_lengthOf wX0_lengthOf 175 1 8 [.null, .int s] P (TI P 15) := by
  refine Ct.of (cc := cX0_lengthOf) (nL := 2) (ret := (some .int)) (ls := [some .null, some (.int s)]) rfl rfl rfl (nle rfl) ?_
  intro K hK hQ
  rcases hs with rfl | rfl | rfl
  · skip
    refine j_iload_n (pc := 0) hK dX0_lengthOf_0 rfl ?_
    refine j_lookup (pc := 1) (tgt := 28) hK dX0_lengthOf_1 (by decide +kernel) (off := 27) (by decide +kernel) (by decide) ?_
    refine j_aload_nN (pc := 28) hK dX0_lengthOf_28 rfl ?_
    refine j_castN (pc := 29) hK dX0_lengthOf_29 ?_
    exact j_lenNull hK hQ dX0_lengthOf_32 (by decide) (by decide) (by decide) (by decide) (by decide) (fun h x w hx => Or.inr ⟨x, rfl, h, w, hx, rfl⟩)
  · skip
    refine j_iload_n (pc := 0) hK dX0_lengthOf_0 rfl ?_
    refine j_lookup (pc := 1) (tgt := 34) hK dX0_lengthOf_1 (by decide +kernel) (off := 33) (by decide +kernel) (by decide) ?_
    refine j_aload_nN (pc := 34) hK dX0_lengthOf_34 rfl ?_
    refine j_castN (pc := 35) hK dX0_lengthOf_35 ?_
    exact j_lenNull hK hQ dX0_lengthOf_38 (by decide) (by decide) (by decide) (by decide) (by decide) (fun h x w hx => Or.inr ⟨x, rfl, h, w, hx, rfl⟩)
  · skip
    refine j_iload_n (pc := 0) hK dX0_lengthOf_0 rfl ?_
    refine j_lookup (pc := 1) (tgt := 40) hK dX0_lengthOf_1 (by decide +kernel) (off := 39) (by decide +kernel) (by decide) ?_
    refine j_aload_nN (pc := 40) hK dX0_lengthOf_40 rfl ?_
    refine j_castN (pc := 41) hK dX0_lengthOf_41 ?_
    exact j_lenNull hK hQ dX0_lengthOf_44 (by decide) (by decide) (by decide) (by decide) (by decide) (fun h x w hx => Or.inr ⟨x, rfl, h, w, hx, rfl⟩)
theorem c_XlengthOfC {b n : Nat} {s t : Int32} {F : Nat → Int32} (hs : s = 0 ∨ s = 1 ∨ s = 2) (ht : t = 0 ∨ t = 1 ∨ t = 2) (hst : ¬ s = t) (hv : Row Γ P b t n F) : Ct Γ A yX0_lengthOf wX0_lengthOf 175 3 1610 [.ref b, .int s] P (TI P 16) := by
  refine Ct.of (cc := cX0_lengthOf) (nL := 2) (ret := (some .int)) (ls := [some (.ref b), some (.int s)]) rfl rfl rfl (nle rfl) ?_
  intro K hK hQ
  have dl : ∀ a ∈ ["[B", "[S", "[I"], (dotted a).length ≤ 40 := fun a ha => dot_len a (by simp at ha; rcases ha with rfl | rfl | rfl <;> simp)
  have done : ∀ h x, P h → h x = none → TI P 16 (.threw x) (pu h x (.inr (16, []))) := fun h x w hx => Or.inr ⟨x, rfl, h, w, hx, rfl⟩
  rcases hs with rfl | rfl | rfl
  · skip
    refine j_iload_n (pc := 0) hK dX0_lengthOf_0 rfl ?_
    refine j_lookup (pc := 1) (tgt := 28) hK dX0_lengthOf_1 (by decide +kernel) (off := 27) (by decide +kernel) (by decide) ?_
    refine j_aload_n (pc := 28) hK dX0_lengthOf_28 rfl ?_
    rcases ht with rfl | rfl | rfl
    · exact absurd rfl hst
    · exact j_castNo hK hQ q970 (nc_aS_aB hK.g) (dl _ (by simp)) (dl _ (by simp)) (by decide +kernel) (by decide +kernel) (cellS hK fun h w => ⟨_, hv h w⟩) dX0_lengthOf_29 (by decide) (by decide) (by decide) (by decide) (by decide) done
    · exact j_castNo hK hQ q970 (nc_aI_aB hK.g) (dl _ (by simp)) (dl _ (by simp)) (by decide +kernel) (by decide +kernel) (cellI hK fun h w => ⟨_, hv h w⟩) dX0_lengthOf_29 (by decide) (by decide) (by decide) (by decide) (by decide) done
  · skip
    refine j_iload_n (pc := 0) hK dX0_lengthOf_0 rfl ?_
    refine j_lookup (pc := 1) (tgt := 34) hK dX0_lengthOf_1 (by decide +kernel) (off := 33) (by decide +kernel) (by decide) ?_
    refine j_aload_n (pc := 34) hK dX0_lengthOf_34 rfl ?_
    rcases ht with rfl | rfl | rfl
    · exact j_castNo hK hQ q971 (nc_aB_aS hK.g) (dl _ (by simp)) (dl _ (by simp)) (by decide +kernel) (by decide +kernel) (cellB hK fun h w => ⟨_, hv h w⟩) dX0_lengthOf_35 (by decide) (by decide) (by decide) (by decide) (by decide) done
    · exact absurd rfl hst
    · exact j_castNo hK hQ q971 (nc_aI_aS hK.g) (dl _ (by simp)) (dl _ (by simp)) (by decide +kernel) (by decide +kernel) (cellI hK fun h w => ⟨_, hv h w⟩) dX0_lengthOf_35 (by decide) (by decide) (by decide) (by decide) (by decide) done
  · skip
    refine j_iload_n (pc := 0) hK dX0_lengthOf_0 rfl ?_
    refine j_lookup (pc := 1) (tgt := 40) hK dX0_lengthOf_1 (by decide +kernel) (off := 39) (by decide +kernel) (by decide) ?_
    refine j_aload_n (pc := 40) hK dX0_lengthOf_40 rfl ?_
    rcases ht with rfl | rfl | rfl
    · exact j_castNo hK hQ q975 (nc_aB_aI hK.g) (dl _ (by simp)) (dl _ (by simp)) (by decide +kernel) (by decide +kernel) (cellB hK fun h w => ⟨_, hv h w⟩) dX0_lengthOf_41 (by decide) (by decide) (by decide) (by decide) (by decide) done
    · exact j_castNo hK hQ q975 (nc_aS_aI hK.g) (dl _ (by simp)) (dl _ (by simp)) (by decide +kernel) (by decide +kernel) (cellS hK fun h w => ⟨_, hv h w⟩) dX0_lengthOf_41 (by decide) (by decide) (by decide) (by decide) (by decide) done
    · exact absurd rfl hst
end P88
