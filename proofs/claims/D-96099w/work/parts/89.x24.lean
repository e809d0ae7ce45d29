/-! the class's rows of a sort: put; an item beyond -/
set_option maxRecDepth 100000
section P89
variable {Γ : Gam} {A : Nat → Prop} {L : Nat → Nat} {f : Nat → Int32} {g : Nat → Int32 → Int32} {T : TX} {P P' : PH → Prop}
def trS (s v : Int32) : Int32 := if s = 0 then v.toInt8.toInt32 else if s = 1 then v.toInt16.toInt32 else v
theorem i8_i8 (v : Int32) : v.toInt8.toInt32.toInt8.toInt32 = v.toInt8.toInt32 := by simp
theorem i16_i16 (v : Int32) : v.toInt16.toInt32.toInt16.toInt32 = v.toInt16.toInt32 := by simp
theorem c_XitemX {b n : Nat} {s i : Int32} {F : Nat → Int32} (hs : s = 0 ∨ s = 1 ∨ s = 2) (hv : Row Γ P b s n F) (hb : ¬ (0 ≤ i ∧ i < nI n)) : Ct Γ A yX0_item wX0_item 7 1 6 [.ref b, .int s, .int i] P (TI P 18) := by
  refine Ct.of (cc := cX0_item) (nL := 3) (ret := (some .int)) (ls := [some (.ref b), some (.int s), some (.int i)]) rfl rfl rfl (nle rfl) ?_
  intro K hK hQ
  rcases hs with rfl | rfl | rfl
  · skip
    refine j_iload_n (pc := 0) hK dX0_item_0 rfl ?_
    refine j_lookup (pc := 1) (tgt := 28) hK dX0_item_1 (by decide +kernel) (off := 27) (by decide +kernel) (by decide) ?_
    refine j_iload_n (pc := 28) hK dX0_item_28 rfl ?_
    refine j_aload_n (pc := 29) hK dX0_item_29 rfl ?_
    refine j_cast1 (pc := 30) hK q970 (cellB hK fun h w => ⟨_, hv h w⟩) dX0_item_30 ?_
    refine j_alen (pc := 33) (t := 1) (v := nI n) hK rfl dX0_item_33 (fun h w => ⟨_, hv h w, rfl⟩) ?_
    refine j_callS (pc := 34) hK hQ (c_XasksPlaceX hb) cal_X0_asksPlace q979 dX0_item_34 rfl rfl (nle rfl) (nle rfl) (nle rfl) (nle rfl) (kr_t (kr_v ?_)) (kx_t nt_v fun x => jt_leave hK hQ (by decide) (nle rfl) (nle rfl) (fun h w => Or.inr ⟨_, rfl, w⟩))
    exact J.void (fun _ z => z)
  · skip
    refine j_iload_n (pc := 0) hK dX0_item_0 rfl ?_
    refine j_lookup (pc := 1) (tgt := 44) hK dX0_item_1 (by decide +kernel) (off := 43) (by decide +kernel) (by decide) ?_
    refine j_iload_n (pc := 44) hK dX0_item_44 rfl ?_
    refine j_aload_n (pc := 45) hK dX0_item_45 rfl ?_
    refine j_cast1 (pc := 46) hK q971 (cellS hK fun h w => ⟨_, hv h w⟩) dX0_item_46 ?_
    refine j_alen (pc := 49) (t := 2) (v := nI n) hK rfl dX0_item_49 (fun h w => ⟨_, hv h w, rfl⟩) ?_
    refine j_callS (pc := 50) hK hQ (c_XasksPlaceX hb) cal_X0_asksPlace q979 dX0_item_50 rfl rfl (nle rfl) (nle rfl) (nle rfl) (nle rfl) (kr_t (kr_v ?_)) (kx_t nt_v fun x => jt_leave hK hQ (by decide) (nle rfl) (nle rfl) (fun h w => Or.inr ⟨_, rfl, w⟩))
    exact J.void (fun _ z => z)
  · skip
    refine j_iload_n (pc := 0) hK dX0_item_0 rfl ?_
    refine j_lookup (pc := 1) (tgt := 60) hK dX0_item_1 (by decide +kernel) (off := 59) (by decide +kernel) (by decide) ?_
    refine j_iload_n (pc := 60) hK dX0_item_60 rfl ?_
    refine j_aload_n (pc := 61) hK dX0_item_61 rfl ?_
    refine j_cast1 (pc := 62) hK q975 (cellI hK fun h w => ⟨_, hv h w⟩) dX0_item_62 ?_
    refine j_alen (pc := 65) (t := 0) (v := nI n) hK rfl dX0_item_65 (fun h w => ⟨_, hv h w, rfl⟩) ?_
    refine j_callS (pc := 66) hK hQ (c_XasksPlaceX hb) cal_X0_asksPlace q979 dX0_item_66 rfl rfl (nle rfl) (nle rfl) (nle rfl) (nle rfl) (kr_t (kr_v ?_)) (kx_t nt_v fun x => jt_leave hK hQ (by decide) (nle rfl) (nle rfl) (fun h w => Or.inr ⟨_, rfl, w⟩))
    exact J.void (fun _ z => z)
theorem c_XputN {i v : Int32} : Ct Γ A yX0_put wX0_put 175 1 8 [.null, .int i, .int v] P (TI P 15) := by
  refine Ct.of (cc := cX0_put) (nL := 3) (ret := (some .int)) (ls := [some .null, some (.int i), some (.int v)]) rfl rfl rfl (nle rfl) ?_
  intro K hK hQ
  refine j_aload_nN (pc := 0) hK dX0_put_0 rfl ?_
  refine j_instN (pc := 1) hK dX0_put_1 ?_
  refine j_if_eq (pc := 4) (tgt := 27) hK dX0_put_4 (by decide) (fun c4 => ?_) (fun c4 => absurd (by decide) c4)
  refine j_aload_nN (pc := 27) hK dX0_put_27 rfl ?_
  refine j_instN (pc := 28) hK dX0_put_28 ?_
  refine j_if_eq (pc := 31) (tgt := 54) hK dX0_put_31 (by decide) (fun c31 => ?_) (fun c31 => absurd (by decide) c31)
  refine j_iload_n (pc := 54) hK dX0_put_54 rfl ?_
  refine j_aload_nN (pc := 55) hK dX0_put_55 rfl ?_
  refine j_castN (pc := 56) hK dX0_put_56 ?_
  exact j_lenNull hK hQ dX0_put_59 (by decide) (by decide) (by decide) (by decide) (nle rfl) (fun h x w hx => Or.inr ⟨x, rfl, h, w, hx, rfl⟩)
theorem c_XputX {b n : Nat} {s i v : Int32} {F : Nat → Int32} (hs : s = 0 ∨ s = 1 ∨ s = 2) (hv : Row Γ P b s n F) (hb : ¬ (0 ≤ i ∧ i < nI n)) : Ct Γ A yX0_put wX0_put 7 1 6 [.ref b, .int i, .int v] P (TI P 18) := by
  refine Ct.of (cc := cX0_put) (nL := 3) (ret := (some .int)) (ls := [some (.ref b), some (.int i), some (.int v)]) rfl rfl rfl (nle rfl) ?_
  intro K hK hQ
  rcases hs with rfl | rfl | rfl
  · skip
    refine j_aload_n (pc := 0) hK dX0_put_0 rfl ?_
    refine j_inst1 (pc := 1) hK q970 (cellB hK fun h w => ⟨_, hv h w⟩) dX0_put_1 ?_
    refine j_if_eq (pc := 4) (tgt := 27) hK dX0_put_4 (by decide) (fun c4 => absurd c4 (by decide)) (fun c4 => ?_)
    refine j_iload_n (pc := 7) hK dX0_put_7 rfl ?_
    refine j_aload_n (pc := 8) hK dX0_put_8 rfl ?_
    refine j_cast1 (pc := 9) hK q970 (cellB hK fun h w => ⟨_, hv h w⟩) dX0_put_9 ?_
    refine j_alen (pc := 12) (t := 1) (v := nI n) hK rfl dX0_put_12 (fun h w => ⟨_, hv h w, rfl⟩) ?_
    refine j_callS (pc := 13) hK hQ (c_XasksPlaceX hb) cal_X0_asksPlace q979 dX0_put_13 rfl rfl (nle rfl) (nle rfl) (nle rfl) (nle rfl) (kr_t (kr_v ?_)) (kx_t nt_v fun x => jt_leave hK hQ (by decide) (nle rfl) (nle rfl) (fun h w => Or.inr ⟨_, rfl, w⟩))
    exact J.void (fun _ z => z)
  · skip
    refine j_aload_n (pc := 0) hK dX0_put_0 rfl ?_
    refine j_inst0 (pc := 1) hK q970 (nc_aS_aB hK.g) (cellS hK fun h w => ⟨_, hv h w⟩) dX0_put_1 ?_
    refine j_if_eq (pc := 4) (tgt := 27) hK dX0_put_4 (by decide) (fun c4 => ?_) (fun c4 => absurd (by decide) c4)
    refine j_aload_n (pc := 27) hK dX0_put_27 rfl ?_
    refine j_inst1 (pc := 28) hK q971 (cellS hK fun h w => ⟨_, hv h w⟩) dX0_put_28 ?_
    refine j_if_eq (pc := 31) (tgt := 54) hK dX0_put_31 (by decide) (fun c31 => absurd c31 (by decide)) (fun c31 => ?_)
    refine j_iload_n (pc := 34) hK dX0_put_34 rfl ?_
    refine j_aload_n (pc := 35) hK dX0_put_35 rfl ?_
    refine j_cast1 (pc := 36) hK q971 (cellS hK fun h w => ⟨_, hv h w⟩) dX0_put_36 ?_
    refine j_alen (pc := 39) (t := 2) (v := nI n) hK rfl dX0_put_39 (fun h w => ⟨_, hv h w, rfl⟩) ?_
    refine j_callS (pc := 40) hK hQ (c_XasksPlaceX hb) cal_X0_asksPlace q979 dX0_put_40 rfl rfl (nle rfl) (nle rfl) (nle rfl) (nle rfl) (kr_t (kr_v ?_)) (kx_t nt_v fun x => jt_leave hK hQ (by decide) (nle rfl) (nle rfl) (fun h w => Or.inr ⟨_, rfl, w⟩))
    exact J.void (fun _ z => z)
  · skip
    refine j_aload_n (pc := 0) hK dX0_put_0 rfl ?_
    refine j_inst0 (pc := 1) hK q970 (nc_aI_aB hK.g) (cellI hK fun h w => ⟨_, hv h w⟩) dX0_put_1 ?_
    refine j_if_eq (pc := 4) (tgt := 27) hK dX0_put_4 (by decide) (fun c4 => ?_) (fun c4 => absurd (by decide) c4)
    refine j_aload_n (pc := 27) hK dX0_put_27 rfl ?_
    refine j_inst0 (pc := 28) hK q971 (nc_aI_aS hK.g) (cellI hK fun h w => ⟨_, hv h w⟩) dX0_put_28 ?_
    refine j_if_eq (pc := 31) (tgt := 54) hK dX0_put_31 (by decide) (fun c31 => ?_) (fun c31 => absurd (by decide) c31)
    refine j_iload_n (pc := 54) hK dX0_put_54 rfl ?_
    refine j_aload_n (pc := 55) hK dX0_put_55 rfl ?_
    refine j_cast1 (pc := 56) hK q975 (cellI hK fun h w => ⟨_, hv h w⟩) dX0_put_56 ?_
    refine j_alen (pc := 59) (t := 0) (v := nI n) hK rfl dX0_put_59 (fun h w => ⟨_, hv h w, rfl⟩) ?_
    refine j_callS (pc := 60) hK hQ (c_XasksPlaceX hb) cal_X0_asksPlace q979 dX0_put_60 rfl rfl (nle rfl) (nle rfl) (nle rfl) (nle rfl) (kr_t (kr_v ?_)) (kx_t nt_v fun x => jt_leave hK hQ (by decide) (nle rfl) (nle rfl) (fun h w => Or.inr ⟨_, rfl, w⟩))
    exact J.void (fun _ z => z)
theorem c_Xput {b n : Nat} {s i v : Int32} {F F' : Nat → Int32} (hs : s = 0 ∨ s = 1 ∨ s = 2) (hv : Row Γ P b s n F) (h0 : 0 ≤ i) (h1 : i < nI n) (hn : n < 2 ^ 31) (hF : ∀ j, j < n → upd F i.toNatClampNeg (trS s v) j = F' j) (hP : ∀ h, P h → P' (pu h b (.inl (gA Γ (srt s), n, .inl F')))) : Ct Γ A yX0_put wX0_put 2 0 0 [.ref b, .int i, .int v] P (RI fun r h => r = 1 ∧ P' h) := by
  refine Ct.of (cc := cX0_put) (nL := 3) (ret := (some .int)) (ls := [some (.ref b), some (.int i), some (.int v)]) rfl rfl rfl (nle rfl) ?_
  intro K hK hQ
  have hi : vp_in i n := by
    obtain ⟨k, hk, rfl⟩ := nI_of (Int32.not_lt.mpr h0)
    exact vp_in_nI ((nI_ltI hk hn).mp h1) hn
  rcases hs with rfl | rfl | rfl
  · skip
    refine j_aload_n (pc := 0) hK dX0_put_0 rfl ?_
    refine j_inst1 (pc := 1) hK q970 (cellB hK fun h w => ⟨_, hv h w⟩) dX0_put_1 ?_
    refine j_if_eq (pc := 4) (tgt := 27) hK dX0_put_4 (by decide) (fun c4 => absurd c4 (by decide)) (fun c4 => ?_)
    refine j_iload_n (pc := 7) hK dX0_put_7 rfl ?_
    refine j_aload_n (pc := 8) hK dX0_put_8 rfl ?_
    refine j_cast1 (pc := 9) hK q970 (cellB hK fun h w => ⟨_, hv h w⟩) dX0_put_9 ?_
    refine j_alen (pc := 12) (t := 1) (v := nI n) hK rfl dX0_put_12 (fun h w => ⟨_, hv h w, rfl⟩) ?_
    refine j_callS (pc := 13) hK hQ (c_XasksPlace h0 h1) cal_X0_asksPlace q979 dX0_put_13 rfl rfl (nle rfl) (nle rfl) (nle rfl) (nle rfl) (kr_v ?_) kx_v
    refine j_aload_n (pc := 16) hK dX0_put_16 rfl ?_
    refine j_cast1 (pc := 17) hK q970 (cellB hK fun h w => ⟨_, hv h w⟩) dX0_put_17 ?_
    refine j_iload_n (pc := 20) hK dX0_put_20 rfl ?_
    refine j_iload_n (pc := 21) hK dX0_put_21 rfl ?_
    refine j_i2b (pc := 22) hK dX0_put_22 ?_
    refine j_bast (pc := 23) (P' := P') hK dX0_put_23 (fun h w => ⟨n, F, F', hv h w, hi, fun j hj => by rw [i8_i8]; exact hF j hj, hP h w⟩) ?_
    refine j_goto (pc := 24) (tgt := 70) hK dX0_put_24 (by decide) ?_
    refine j_iconst (pc := 70) (v := 1) hK dX0_put_70 (by decide) ?_
    exact j_iret (pc := 71) hK hQ (nle rfl) (nle rfl) dX0_put_71 (fun h w => ⟨_, rfl, rfl, w⟩)
  · skip
    refine j_aload_n (pc := 0) hK dX0_put_0 rfl ?_
    refine j_inst0 (pc := 1) hK q970 (nc_aS_aB hK.g) (cellS hK fun h w => ⟨_, hv h w⟩) dX0_put_1 ?_
    refine j_if_eq (pc := 4) (tgt := 27) hK dX0_put_4 (by decide) (fun c4 => ?_) (fun c4 => absurd (by decide) c4)
    refine j_aload_n (pc := 27) hK dX0_put_27 rfl ?_
    refine j_inst1 (pc := 28) hK q971 (cellS hK fun h w => ⟨_, hv h w⟩) dX0_put_28 ?_
    refine j_if_eq (pc := 31) (tgt := 54) hK dX0_put_31 (by decide) (fun c31 => absurd c31 (by decide)) (fun c31 => ?_)
    refine j_iload_n (pc := 34) hK dX0_put_34 rfl ?_
    refine j_aload_n (pc := 35) hK dX0_put_35 rfl ?_
    refine j_cast1 (pc := 36) hK q971 (cellS hK fun h w => ⟨_, hv h w⟩) dX0_put_36 ?_
    refine j_alen (pc := 39) (t := 2) (v := nI n) hK rfl dX0_put_39 (fun h w => ⟨_, hv h w, rfl⟩) ?_
    refine j_callS (pc := 40) hK hQ (c_XasksPlace h0 h1) cal_X0_asksPlace q979 dX0_put_40 rfl rfl (nle rfl) (nle rfl) (nle rfl) (nle rfl) (kr_v ?_) kx_v
    refine j_aload_n (pc := 43) hK dX0_put_43 rfl ?_
    refine j_cast1 (pc := 44) hK q971 (cellS hK fun h w => ⟨_, hv h w⟩) dX0_put_44 ?_
    refine j_iload_n (pc := 47) hK dX0_put_47 rfl ?_
    refine j_iload_n (pc := 48) hK dX0_put_48 rfl ?_
    refine j_i2s (pc := 49) hK dX0_put_49 ?_
    refine j_sast (pc := 50) (P' := P') hK dX0_put_50 (fun h w => ⟨n, F, F', hv h w, hi, fun j hj => by rw [i16_i16]; exact hF j hj, hP h w⟩) ?_
    refine j_goto (pc := 51) (tgt := 70) hK dX0_put_51 (by decide) ?_
    refine j_iconst (pc := 70) (v := 1) hK dX0_put_70 (by decide) ?_
    exact j_iret (pc := 71) hK hQ (nle rfl) (nle rfl) dX0_put_71 (fun h w => ⟨_, rfl, rfl, w⟩)
  · skip
    refine j_aload_n (pc := 0) hK dX0_put_0 rfl ?_
    refine j_inst0 (pc := 1) hK q970 (nc_aI_aB hK.g) (cellI hK fun h w => ⟨_, hv h w⟩) dX0_put_1 ?_
    refine j_if_eq (pc := 4) (tgt := 27) hK dX0_put_4 (by decide) (fun c4 => ?_) (fun c4 => absurd (by decide) c4)
    refine j_aload_n (pc := 27) hK dX0_put_27 rfl ?_
    refine j_inst0 (pc := 28) hK q971 (nc_aI_aS hK.g) (cellI hK fun h w => ⟨_, hv h w⟩) dX0_put_28 ?_
    refine j_if_eq (pc := 31) (tgt := 54) hK dX0_put_31 (by decide) (fun c31 => ?_) (fun c31 => absurd (by decide) c31)
    refine j_iload_n (pc := 54) hK dX0_put_54 rfl ?_
    refine j_aload_n (pc := 55) hK dX0_put_55 rfl ?_
    refine j_cast1 (pc := 56) hK q975 (cellI hK fun h w => ⟨_, hv h w⟩) dX0_put_56 ?_
    refine j_alen (pc := 59) (t := 0) (v := nI n) hK rfl dX0_put_59 (fun h w => ⟨_, hv h w, rfl⟩) ?_
    refine j_callS (pc := 60) hK hQ (c_XasksPlace h0 h1) cal_X0_asksPlace q979 dX0_put_60 rfl rfl (nle rfl) (nle rfl) (nle rfl) (nle rfl) (kr_v ?_) kx_v
    refine j_aload_n (pc := 63) hK dX0_put_63 rfl ?_
    refine j_cast1 (pc := 64) hK q975 (cellI hK fun h w => ⟨_, hv h w⟩) dX0_put_64 ?_
    refine j_iload_n (pc := 67) hK dX0_put_67 rfl ?_
    refine j_iload_n (pc := 68) hK dX0_put_68 rfl ?_
    refine j_iast (pc := 69) (P' := P') hK dX0_put_69 (fun h w => ⟨n, F, F', hv h w, hi, fun j hj => hF j hj, hP h w⟩) ?_
    refine j_iconst (pc := 70) (v := 1) hK dX0_put_70 (by decide) ?_
    exact j_iret (pc := 71) hK hQ (nle rfl) (nle rfl) dX0_put_71 (fun h w => ⟨_, rfl, rfl, w⟩)
end P89
