/-! the class: sheet -/
set_option maxRecDepth 100000
section P95
variable {Γ : Gam} {A : Nat → Prop} {L : Nat → Nat} {f : Nat → Int32} {g : Nat → Int32 → Int32} {T : TX} {P P' : PH → Prop} {x : XD} {tm : Nat}
theorem in_m1 {v : Int32} (h : -1 ≤ v ∧ v ≤ 2) (hn : ¬ v = -1) : v = 0 ∨ v = 1 ∨ v = 2 := by
  obtain ⟨h1, h2⟩ := h
  grind
theorem c_Xsheet {s sort n : Int32} : Ct Γ A yX0_sheet wX0_sheet 176 3 1610 [.ref (L 35), .int s, .int sort, .int n] (XI Γ L f g T TT) (RI (XOe Γ (L 35) T (oSheet f g s sort n))) := by
  refine Ct.ofW (cc := cX0_sheet) (nL := 5) (ret := (some .int)) (hh := hX0_sheet) (ls := [some (.ref (L 35)), some (.int s), some (.int sort), some (.int n), none]) rfl rfl rfl (nle rfl) ?_
  intro K hK hQ
  refine xi_open fun x r _ => ?_
  have hnb : x.nb ≤ 7 := r.2.2.1.1
  have bad : oSheet f g s sort n = (-2, f, g) → J Γ A K 32 [some (.ref (L 35)), some (.int s), some (.int sort), some (.int n), none] [] (XC Γ L T (f 17).toNatClampNeg x) 0 0 := by
    intro e
    refine j_bipush (pc := 32) (v := (-2)) hK dX0_sheet_32 (by decide) ?_
    exact j_iret (pc := 34) hK hQ (nle rfl) (nle rfl) dX0_sheet_34 (fun h w => ⟨_, rfl, L, rfl, f, g, e, xi_close w rfl r trivial⟩)
  have good : ∀ k : Nat, s = nI k → k < 4 → (0 ≤ s ∧ s ≤ 3) → (-1 ≤ sort ∧ sort ≤ 2) → (sort = -1 ∨ n ≤ 40) → J Γ A K 35 [some (.ref (L 35)), some (.int s), some (.int sort), some (.int n), none] [] (XC Γ L T (f 17).toNatClampNeg x) 0 0 := by
    intro k ek hk hs hso hn
    by_cases hm : sort = -1
    · skip
      refine j_iload_n (pc := 35) hK dX0_sheet_35 rfl ?_
      refine j_iconst (pc := 36) (v := (-1)) hK dX0_sheet_36 (by decide) ?_
      refine j_icmp_ne (pc := 37) (tgt := 52) hK dX0_sheet_37 (by decide) (fun c37 => absurd hm c37) (fun c37 => ?_)
      refine j_aload_n (pc := 40) hK dX0_sheet_40 rfl ?_
      refine xc_getR (pc := 41) (k := 34) hK (fun _ w => w) (by decide) rfl q785 rfl dX0_sheet_41 ?_
      refine j_iload_n (pc := 44) hK dX0_sheet_44 rfl ?_
      refine j_aald (pc := 45) (t := 8) (v := some (L (49 + k))) hK rfl rfl dX0_sheet_45 (fun h w => ⟨_, _, w.1.at xcs_s, by rw [ek]; exact vp_in_nI hk (by decide), by rw [ek, nI_clamp (by omega)]⟩) ?_
      refine j_null (pc := 46) hK dX0_sheet_46 ?_
      refine j_putN (pc := 47) (k := 0) (ci := 2) (P' := XC Γ L T (f 17).toNatClampNeg (xnS x k (-1) 0)) hK rfl in_X2 tyX2_ok nmX2 (by decide) q738 (fun x h => h) rfl rfl rfl dX0_sheet_47 (fun h w => ⟨_, w.1.at (xcs_sh hk), Nat.zero_lt_one, w.sheet0 hk hnb⟩) ?_
      refine j_iconst (pc := 50) (v := 1) hK dX0_sheet_50 (by decide) ?_
      exact j_iret (pc := 51) hK hQ (nle rfl) (nle rfl) dX0_sheet_51 (fun h w => ⟨_, rfl, L, rfl, f, ug g 36 (nI k) (-1), by unfold oSheet; rw [if_neg (fun z => z hs), if_neg (fun z => z hso), if_pos hm, ek], xi_close w rfl (r.sheet0 hk) trivial⟩)
    · have hn40 : n ≤ 40 := hn.resolve_left hm
      have h3 := in_m1 hso hm
      by_cases h0 : n < 0
      · have hand : ∀ e cs ss, cs ≤ 3 → ss ≤ 1610 → J Γ A K 68 [some (.ref (L 35)), some (.int s), some (.int sort), some (.int n), none] [.ref e] (NBg (XC Γ L T (f 17).toNatClampNeg x) e (.inr (17, []))) cs ss := by
          intro e cs ss hc hss
          refine j_ast4 (pc := 68) hK dX0_sheet_68 (by decide) rfl ?_
          refine j_bipush (pc := 70) (v := (-14)) hK dX0_sheet_70 (by decide) ?_
          exact j_iret (pc := 72) hK hQ hc hss dX0_sheet_72 (fun h w => ⟨_, rfl, L, rfl, f, g, by unfold oSheet; rw [if_neg (fun z => z hs), if_neg (fun z => z hso), if_neg hm, if_neg (Int32.not_lt.mpr hn40), if_pos h0], by obtain ⟨h0, w, ha, rfl⟩ := w; exact XI.fresh _ (xi_close w rfl r trivial) ha⟩)
        refine j_iload_n (pc := 35) hK dX0_sheet_35 rfl ?_
        refine j_iconst (pc := 36) (v := (-1)) hK dX0_sheet_36 (by decide) ?_
        refine j_icmp_ne (pc := 37) (tgt := 52) hK dX0_sheet_37 (by decide) (fun c37 => ?_) (fun c37 => absurd c37 hm)
        refine j_aload_n (pc := 52) hK dX0_sheet_52 rfl ?_
        refine xc_getR (pc := 53) (k := 34) hK (fun _ w => w) (by decide) rfl q785 rfl dX0_sheet_53 ?_
        refine j_iload_n (pc := 56) hK dX0_sheet_56 rfl ?_
        refine j_aald (pc := 57) (t := 8) (v := some (L (49 + k))) hK rfl rfl dX0_sheet_57 (fun h w => ⟨_, _, w.1.at xcs_s, by rw [ek]; exact vp_in_nI hk (by decide), by rw [ek, nI_clamp (by omega)]⟩) ?_
        refine j_iload_n (pc := 58) hK dX0_sheet_58 rfl ?_
        refine j_iload_n (pc := 59) hK dX0_sheet_59 rfl ?_
        refine j_callS (pc := 60) hK hQ (c_XrowOfN h3 h0) cal_X0_rowOf q1072 dX0_sheet_60 rfl rfl (nle rfl) (nle rfl) (nle rfl) (nle rfl) (kr_t (kr_r fun r60 => ?_)) (kx_t nt_r fun e => jt_catch hK ⟨52, 67, 68, 464⟩ [] rfl rfl (by decide) q1043 (IsC.cellC hK (ex_isC (P := XC Γ L T (f 17).toNatClampNeg x) (ci := 17) (r := (RJ11, TJ10, 0)) rfl rfl)) (hand e _ _ (nle rfl) (nle rfl)))
        exact J.void (fun _ z => z)
      · obtain ⟨m, hm40, em⟩ := nI_of2 (x := n) (M := 40) (n := 40) (by decide) h0 hn40
        refine j_iload_n (pc := 35) hK dX0_sheet_35 rfl ?_
        refine j_iconst (pc := 36) (v := (-1)) hK dX0_sheet_36 (by decide) ?_
        refine j_icmp_ne (pc := 37) (tgt := 52) hK dX0_sheet_37 (by decide) (fun c37 => ?_) (fun c37 => absurd c37 hm)
        refine j_aload_n (pc := 52) hK dX0_sheet_52 rfl ?_
        refine xc_getR (pc := 53) (k := 34) hK (fun _ w => w) (by decide) rfl q785 rfl dX0_sheet_53 ?_
        refine j_iload_n (pc := 56) hK dX0_sheet_56 rfl ?_
        refine j_aald (pc := 57) (t := 8) (v := some (L (49 + k))) hK rfl rfl dX0_sheet_57 (fun h w => ⟨_, _, w.1.at xcs_s, by rw [ek]; exact vp_in_nI hk (by decide), by rw [ek, nI_clamp (by omega)]⟩) ?_
        refine j_iload_n (pc := 58) hK dX0_sheet_58 rfl ?_
        refine j_iload_n (pc := 59) hK dX0_sheet_59 rfl ?_
        rw [em]
        refine j_callS (pc := 60) hK hQ (c_XrowOf h3 hm40) cal_X0_rowOf q1072 dX0_sheet_60 rfl rfl (nle rfl) (nle rfl) (nle rfl) (nle rfl) (kr_r fun r60 => ?_) kx_r
        refine J.ex fun a => ?_
        refine J.pre fun ea => ?_
        subst ea
        refine j_putN (pc := 63) (k := 0) (ci := 2) (P' := fun h => ∃ h0, XC Γ L T (f 17).toNatClampNeg x h0 ∧ h0 a = none ∧ h = pu (pu h0 a (.inl (gA Γ (srt sort), (nI m).toNatClampNeg, .inl fun _ => 0))) (L (49 + k)) (.inr (2, [.ref a]))) hK rfl in_X2 tyX2_ok nmX2 (by decide) q738 (fun x h => h) rfl rfl rfl dX0_sheet_63 (fun h w => by obtain ⟨h0, w, ha, rfl⟩ := w; exact ⟨[if x.q 38 (nI k) = -1 then .null else .ref (L (53 + k))], (by rw [pu_ne _ _ (fun z => by have := w.1.at (xcs_sh hk); rw [z, ha] at this; cases this)]; exact w.1.at (xcs_sh hk)), Nat.zero_lt_one, h0, w, ha, by rw [nI_clamp (by omega)]; rfl⟩) ?_
        refine j_sheet hk hm hnb ?_
        refine j_iconst (pc := 66) (v := 1) hK dX0_sheet_66 (by decide) ?_
        exact j_iret (pc := 67) hK hQ (nle rfl) (nle rfl) dX0_sheet_67 (fun h w => ⟨_, rfl, L1 L (53 + k) a, L1_o (by omega), f, zr (ug (ug g 36 (nI k) sort) 37 (nI k) (nI m)) (nI k) 40, by unfold oSheet; rw [if_neg (fun z => z hs), if_neg (fun z => z hso), if_neg hm, if_neg (Int32.not_lt.mpr hn40), if_neg h0, ek, em], xi_close w rfl (r.sheet hk) trivial⟩)
  refine j_iload_n (pc := 0) hK dX0_sheet_0 rfl ?_
  refine j_callS (pc := 1) hK hQ (c_XisSheet _) cal_X0_isSheet q964 dX0_sheet_1 rfl rfl (nle rfl) (nle rfl) (nle rfl) (nle rfl) (kr_i fun r1 => ?_) kx_i
  refine J.pre fun e1 => ?_
  subst e1
  refine j_if_eq_b (pc := 4) (tgt := 32) hK dX0_sheet_4 (by decide) (fun c4 => ?_) (fun c4 => ?_)
  · exact bad (by unfold oSheet; first | rw [if_pos c4] | (rw [if_neg (fun z => z c4)]; first | rw [if_pos c18] | rw [if_neg (fun z => z c18), if_neg c23, if_pos (Int32.not_le.mp c29)]))
  · refine j_iload_n (pc := 7) hK dX0_sheet_7 rfl ?_
    refine j_i2l (pc := 8) hK dX0_sheet_8 ?_
    refine j_ldc2 (pc := 9) hK q1070 dX0_sheet_9 ?_
    refine j_ldc2 (pc := 12) hK q1071 dX0_sheet_12 ?_
    refine j_callS (pc := 15) hK hQ (c_Xin (l := -1) (u := 2) (by decide) (by decide)) cal_X0_in q106 dX0_sheet_15 rfl rfl (nle rfl) (nle rfl) (nle rfl) (nle rfl) (kr_i fun r15 => ?_) kx_i
    refine J.pre fun e15 => ?_
    subst e15
    refine j_if_eq_b (pc := 18) (tgt := 32) hK dX0_sheet_18 (by decide) (fun c18 => ?_) (fun c18 => ?_)
    · exact bad (by unfold oSheet; first | rw [if_pos c4] | (rw [if_neg (fun z => z c4)]; first | rw [if_pos c18] | rw [if_neg (fun z => z c18), if_neg c23, if_pos (Int32.not_le.mp c29)]))
    · refine j_iload_n (pc := 21) hK dX0_sheet_21 rfl ?_
      refine j_iconst (pc := 22) (v := (-1)) hK dX0_sheet_22 (by decide) ?_
      refine j_icmp_eq (pc := 23) (tgt := 35) hK dX0_sheet_23 (by decide) (fun c23 => ?_) (fun c23 => ?_)
      · obtain ⟨k, hk3, ek, -⟩ := it_nI c4
        exact good k ek (by omega) c4 c18 (by first | exact Or.inl c23 | exact Or.inr c29)
      · refine j_iload_n (pc := 26) hK dX0_sheet_26 rfl ?_
        refine j_bipush (pc := 27) (v := 40) hK dX0_sheet_27 (by decide) ?_
        refine j_icmp_le (pc := 29) (tgt := 35) hK dX0_sheet_29 (by decide) (fun c29 => ?_) (fun c29 => ?_)
        · obtain ⟨k, hk3, ek, -⟩ := it_nI c4
          exact good k ek (by omega) c4 c18 (by first | exact Or.inl c23 | exact Or.inr c29)
        · exact bad (by unfold oSheet; first | rw [if_pos c4] | (rw [if_neg (fun z => z c4)]; first | rw [if_pos c18] | rw [if_neg (fun z => z c18), if_neg c23, if_pos (Int32.not_le.mp c29)]))
end P95
