/-! the class: boats -/
set_option maxRecDepth 100000
section P98
variable {Γ : Gam} {A : Nat → Prop} {L : Nat → Nat} {f : Nat → Int32} {g : Nat → Int32 → Int32} {T : TX} {P P' : PH → Prop} {x : XD}
theorem in_02 {v : Int32} (h : 0 ≤ v ∧ v ≤ 2) : v = 0 ∨ v = 1 ∨ v = 2 := by
  obtain ⟨h1, h2⟩ := h
  grind
theorem c_Xboats {s sort fr n : Int32} (hI : InvS g) (hN : InvN f) : Ct Γ A yX0_boats wX0_boats 177 8 1610 [.ref (L 35), .int s, .int sort, .int fr, .int n] (XI Γ L f g T TT) (RI (XOe Γ (L 35) T (oBoats f g s sort fr n))) := by
  refine Ct.ofW (cc := cX0_boats) (nL := 6) (ret := (some .int)) (hh := hX0_boats) (ls := [some (.ref (L 35)), some (.int s), some (.int sort), some (.int fr), some (.int n), none]) rfl rfl rfl (nle rfl) ?_
  intro K hK hQ
  have main : (0 ≤ s ∧ s ≤ 3) → (0 ≤ sort ∧ sort ≤ 2) → (0 ≤ n ∧ n ≤ 7) → J Γ A K 35 [some (.ref (L 35)), some (.int s), some (.int sort), some (.int fr), some (.int n), none] [] (XI Γ L f g T TT) 0 0 := by
    intro hs hso hn
    obtain ⟨k, hk3, ek, -⟩ := it_nI hs
    have hk : k < 4 := by omega
    have h3 := in_02 hso
    obtain ⟨z1, z2, z3⟩ := hI k hk
    by_cases h36 : g 36 (nI k) = -1
    · have hand : ∀ e cs ss, cs ≤ 8 → ss ≤ 1610 → J Γ A K 58 [some (.ref (L 35)), some (.int s), some (.int sort), some (.int fr), some (.int n), none] [.ref e] (NBg (XI Γ L f g T TT) e (.inr (15, []))) cs ss := by
        intro e cs ss hc hss
        refine j_ast5 (pc := 58) hK dX0_boats_58 (by decide) rfl ?_
        refine j_bipush (pc := 60) (v := (-11)) hK dX0_boats_60 (by decide) ?_
        exact j_iret (pc := 62) hK hQ hc hss dX0_boats_62 (fun h w => ⟨_, rfl, L, rfl, f, g, by unfold oBoats; rw [if_neg (fun z => z hs), if_neg (fun z => z hso), if_neg (fun z => z hn), if_pos (by rw [ek]; exact h36)], XI.nb w⟩)
      refine j_aload_n (pc := 35) hK dX0_boats_35 rfl ?_
      refine j_aload_n (pc := 36) hK dX0_boats_36 rfl ?_
      refine xi_getR (pc := 37) (k := 34) hK (fun _ w => w) (by decide) rfl q785 rfl dX0_boats_37 ?_
      refine j_iload_n (pc := 40) hK dX0_boats_40 rfl ?_
      refine xi_shl (pc := 41) hK (fun _ w => w) ek hk dX0_boats_41 ?_
      refine xi_rowN (pc := 42) (n := k) hK (fun _ w => w) hk h36 q738 dX0_boats_42 ?_
      refine j_iload_n (pc := 45) hK dX0_boats_45 rfl ?_
      refine j_iload_n (pc := 46) hK dX0_boats_46 rfl ?_
      refine j_iload (pc := 47) hK dX0_boats_47 rfl ?_
      refine j_callV (pc := 49) hK hQ (c_XcameN h3) cal_X0_came (xi_isC (fun _ w => w)) q1142 dX0_boats_49 rfl rfl (nle rfl) (nle rfl) (nle rfl) (nle rfl) (kr_t (kr_i fun r49 => ?_)) (kx_t nt_i fun e => jt_catch2 hK ⟨35, 52, 53, 487⟩ ⟨35, 52, 58, 476⟩ [⟨35, 52, 63, 478⟩] rfl rfl (by decide) (by decide) q1128 q1080 (nc_NullPointerException_ClassCastException hK.g) (IsC.cellC hK (ex_isC (P := XI Γ L f g T TT) (ci := 15) (r := (RJ12, TJ10, 0)) rfl rfl)) (hand e _ _ (nle rfl) (nle rfl)))
      exact J.void (fun _ z => z)
    · have h3o := z3.resolve_left h36
      obtain ⟨sz, hsz, esz⟩ := nI_of2 (x := g 37 (nI k)) (M := 40) (n := 40) (by decide) (Int32.not_lt.mpr z1) z2
      by_cases hst : g 36 (nI k) = sort
      · obtain ⟨m, hm, em⟩ := nI_of2 (x := n) (M := 7) (n := 7) (by decide) (Int32.not_lt.mpr hn.1) hn.2
        have oBs : oBoats f g s sort fr n = bsL (nI k) fr m 0 f g 0 := by
          unfold oBoats
          rw [if_neg (fun z => z hs), if_neg (fun z => z hso), if_neg (fun z => z hn), if_neg (by rw [ek]; exact h36), if_neg (by rw [ek]; exact fun z => z hst), em, nI_clamp (by omega), ek]
        have hand : ∀ e cs ss, cs ≤ 8 → ss ≤ 1610 → J Γ A K 63 [some (.ref (L 35)), some (.int s), some (.int sort), some (.int fr), some (.int n), none] [.ref e] (fun h => ∃ L' : Nat → Nat, ∃ f' g', bsL (nI k) fr m 0 f g 0 = (-12, f', g') ∧ NBg (XI Γ L' f' g' T TT) e (.inr (18, [])) h ∧ L' 35 = L 35) cs ss := by
          intro e cs ss hc hss
          refine j_ast5 (pc := 63) hK dX0_boats_63 (by decide) rfl ?_
          refine j_bipush (pc := 65) (v := (-12)) hK dX0_boats_65 (by decide) ?_
          exact j_iret (pc := 67) hK hQ hc hss dX0_boats_67 (fun h w => by obtain ⟨L', f', g', eo, wn, hL⟩ := w; exact ⟨_, rfl, L', hL, f', g', by rw [oBs, eo], XI.nb wn⟩)
        refine j_aload_n (pc := 35) hK dX0_boats_35 rfl ?_
        refine j_aload_n (pc := 36) hK dX0_boats_36 rfl ?_
        refine xi_getR (pc := 37) (k := 34) hK (fun _ w => w) (by decide) rfl q785 rfl dX0_boats_37 ?_
        refine j_iload_n (pc := 40) hK dX0_boats_40 rfl ?_
        refine xi_shl (pc := 41) hK (fun _ w => w) ek hk dX0_boats_41 ?_
        refine xi_rowR (pc := 42) (n := k) hK (fun _ w => w) hk h36 q738 dX0_boats_42 ?_
        refine j_iload_n (pc := 45) hK dX0_boats_45 rfl ?_
        refine j_iload_n (pc := 46) hK dX0_boats_46 rfl ?_
        refine j_iload (pc := 47) hK dX0_boats_47 rfl ?_
        refine j_callV (pc := 49) hK hQ (c_Xcame (k := k) (m := m) hN hk hst h3 esz hsz em hm) cal_X0_came (xi_isC (fun _ w => w)) q1142 dX0_boats_49 rfl rfl (nle rfl) (nle rfl) (nle rfl) (nle rfl) (kr_t (kr_i fun r49 => ?_)) (kx_t nt_i fun e => jt_catch3 hK ⟨35, 52, 53, 487⟩ ⟨35, 52, 58, 476⟩ ⟨35, 52, 63, 478⟩ [] rfl rfl (by decide) (by decide) (by decide) q1128 q1080 q982 (nc_IndexOutOfBoundsException_ClassCastException hK.g) (nc_IndexOutOfBoundsException_NullPointerException hK.g) (IsC.cellC hK (fun h ⟨_, _, _, _, ⟨h0, _, _, e'⟩, _⟩ => ⟨18, [], _, by rw [e', pu_self], rfl, rfl⟩)) (hand e _ _ (nle rfl) (nle rfl)))
        exact j_iret (pc := 52) hK hQ (nle rfl) (nle rfl) dX0_boats_52 (fun h w => ⟨_, rfl, by rw [oBs]; exact w⟩)
      · have hand : ∀ (x : XD) e cs ss, XR f g x → cs ≤ 8 → ss ≤ 1610 → J Γ A K 53 [some (.ref (L 35)), some (.int s), some (.int sort), some (.int fr), some (.int n), none] [.ref e] (NBg (XC Γ L T (f 17).toNatClampNeg x) e (.inr (16, []))) cs ss := by
          intro x e cs ss r hc hss
          refine j_ast5 (pc := 53) hK dX0_boats_53 (by decide) rfl ?_
          refine j_bipush (pc := 55) (v := (-13)) hK dX0_boats_55 (by decide) ?_
          exact j_iret (pc := 57) hK hQ hc hss dX0_boats_57 (fun h w => ⟨_, rfl, L, rfl, f, g, by unfold oBoats; rw [if_neg (fun z => z hs), if_neg (fun z => z hso), if_neg (fun z => z hn), if_neg (by rw [ek]; exact h36), if_pos (by rw [ek]; exact hst)], by obtain ⟨h0, w, ha, rfl⟩ := w; exact XI.fresh _ (xi_close w rfl r trivial) ha⟩)
        refine j_aload_n (pc := 35) hK dX0_boats_35 rfl ?_
        refine j_aload_n (pc := 36) hK dX0_boats_36 rfl ?_
        refine xi_getR (pc := 37) (k := 34) hK (fun _ w => w) (by decide) rfl q785 rfl dX0_boats_37 ?_
        refine j_iload_n (pc := 40) hK dX0_boats_40 rfl ?_
        refine xi_shl (pc := 41) hK (fun _ w => w) ek hk dX0_boats_41 ?_
        refine xi_rowR (pc := 42) (n := k) hK (fun _ w => w) hk h36 q738 dX0_boats_42 ?_
        refine xi_open fun x r _ => ?_
        have hq38 : x.q 38 (nI k) = g 36 (nI k) := (r.2.2.2.2.2.2 k hk).1
        have h38 : ¬ x.q 38 (nI k) = -1 := by rw [hq38]; exact h36
        have row : Row Γ (XC Γ L T (f 17).toNatClampNeg x) (L (53 + k)) (g 36 (nI k)) (x.q 39 (nI k)).toNatClampNeg (fun j => x.q (53 + k) (nI j)) := fun h w => by rw [← hq38]; exact w.1.at (xcs_row hk h38)
        refine j_iload_n (pc := 45) hK dX0_boats_45 rfl ?_
        refine j_iload_n (pc := 46) hK dX0_boats_46 rfl ?_
        refine j_iload (pc := 47) hK dX0_boats_47 rfl ?_
        refine j_callV (pc := 49) hK hQ (c_XcameC h3 h3o (fun z => hst z.symm) row) cal_X0_came (xc_isC (fun _ w => w)) q1142 dX0_boats_49 rfl rfl (nle rfl) (nle rfl) (nle rfl) (nle rfl) (kr_t (kr_i fun r49 => ?_)) (kx_t nt_i fun e => jt_catch hK ⟨35, 52, 53, 487⟩ [⟨35, 52, 58, 476⟩, ⟨35, 52, 63, 478⟩] rfl rfl (by decide) q1128 (IsC.cellC hK (ex_isC (P := XC Γ L T (f 17).toNatClampNeg x) (ci := 16) (r := (RJ14, TJ10, 0)) rfl rfl)) (hand x e _ _ r (nle rfl) (nle rfl)))
        exact J.void (fun _ z => z)
  refine j_iload_n (pc := 0) hK dX0_boats_0 rfl ?_
  refine j_callS (pc := 1) hK hQ (c_XisSheet _) cal_X0_isSheet q964 dX0_boats_1 rfl rfl (nle rfl) (nle rfl) (nle rfl) (nle rfl) (kr_i fun r1 => ?_) kx_i
  refine J.pre fun e1 => ?_
  subst e1
  refine j_if_eq_b (pc := 4) (tgt := 32) hK dX0_boats_4 (by decide) (fun c4 => ?_) (fun c4 => ?_)
  · refine j_bipush (pc := 32) (v := (-2)) hK dX0_boats_32 (by decide) ?_
    exact j_iret (pc := 34) hK hQ (nle rfl) (nle rfl) dX0_boats_34 (fun h w => ⟨_, rfl, L, rfl, f, g, by unfold oBoats; first | rw [if_pos c4] | (rw [if_neg (fun z => z c4)]; first | rw [if_pos c16] | rw [if_neg (fun z => z c16), if_pos c29]), w⟩)
  · refine j_iload_n (pc := 7) hK dX0_boats_7 rfl ?_
    refine j_i2l (pc := 8) hK dX0_boats_8 ?_
    refine j_lconst (pc := 9) (v := 0) hK dX0_boats_9 (by decide) ?_
    refine j_ldc2 (pc := 10) hK q1071 dX0_boats_10 ?_
    refine j_callS (pc := 13) hK hQ (c_Xin (l := 0) (u := 2) (by decide) (by decide)) cal_X0_in q106 dX0_boats_13 rfl rfl (nle rfl) (nle rfl) (nle rfl) (nle rfl) (kr_i fun r13 => ?_) kx_i
    refine J.pre fun e13 => ?_
    subst e13
    refine j_if_eq_b (pc := 16) (tgt := 32) hK dX0_boats_16 (by decide) (fun c16 => ?_) (fun c16 => ?_)
    · refine j_bipush (pc := 32) (v := (-2)) hK dX0_boats_32 (by decide) ?_
      exact j_iret (pc := 34) hK hQ (nle rfl) (nle rfl) dX0_boats_34 (fun h w => ⟨_, rfl, L, rfl, f, g, by unfold oBoats; first | rw [if_pos c4] | (rw [if_neg (fun z => z c4)]; first | rw [if_pos c16] | rw [if_neg (fun z => z c16), if_pos c29]), w⟩)
    · refine j_iload (pc := 19) hK dX0_boats_19 rfl ?_
      refine j_i2l (pc := 21) hK dX0_boats_21 ?_
      refine j_lconst (pc := 22) (v := 0) hK dX0_boats_22 (by decide) ?_
      refine j_ldc2 (pc := 23) hK q917 dX0_boats_23 ?_
      refine j_callS (pc := 26) hK hQ (c_Xin (l := 0) (u := 7) (by decide) (by decide)) cal_X0_in q106 dX0_boats_26 rfl rfl (nle rfl) (nle rfl) (nle rfl) (nle rfl) (kr_i fun r26 => ?_) kx_i
      refine J.pre fun e26 => ?_
      subst e26
      refine j_if_ne_b (pc := 29) (tgt := 35) hK dX0_boats_29 (by decide) (fun c29 => ?_) (fun c29 => ?_)
      · exact main c4 c16 c29
      · refine j_bipush (pc := 32) (v := (-2)) hK dX0_boats_32 (by decide) ?_
        exact j_iret (pc := 34) hK hQ (nle rfl) (nle rfl) dX0_boats_34 (fun h w => ⟨_, rfl, L, rfl, f, g, by unfold oBoats; first | rw [if_pos c4] | (rw [if_neg (fun z => z c4)]; first | rw [if_pos c16] | rw [if_neg (fun z => z c16), if_pos c29]), w⟩)
end P98
