/-! the class: the fault is made -/
set_option maxRecDepth 100000
abbrev wJ0_init_2 : List Cond := ws_ yJ0_init_2 cJ0_init_2 5 none
theorem cal_J0_init_2 : CalI yJ0_init_2 wJ0_init_2 cJ0_init_2 5 4 := ⟨lw_meth q698, q697, q71, q698, ⟨by decide, by decide⟩, (by decide +kernel), by decide, rfl⟩
abbrev wJ1_init : List Cond := ws_ yJ1_init cJ1_init 5 none
theorem cal_J1_init : CalI yJ1_init wJ1_init cJ1_init 5 4 := ⟨lw_meth q695, q694, q72, q695, ⟨by decide, by decide⟩, (by decide +kernel), by decide, rfl⟩
abbrev wJ2_init : List Cond := ws_ yJ2_init cJ2_init 5 none
theorem cal_J2_init : CalI yJ2_init wJ2_init cJ2_init 5 4 := ⟨lw_meth q692, q691, q73, q692, ⟨by decide, by decide⟩, (by decide +kernel), by decide, rfl⟩
section P9D
variable {Γ : Gam} {A : Nat → Prop} {P P' : PH → Prop} {a : Nat}
theorem LT.ref (hΓ : GOK Γ) {cls name desc : String} (h : (Cond.isRef (.static cls name desc)).before #[Value.ref (gb Γ)] (gs Γ) = true) (hl : Cond.laysStatic cls name desc ∈ lw_tbl) (hi : Cond.initialized cls ∈ lw_tbl) : ∃ w, (w = .null ∨ ∃ x, w = .ref x) ∧ LT Γ cls name desc w := by
  simp only [Cond.before, Cond.holds, Cond.value] at h
  cases hv : (Term.static cls name desc).eval #[Value.ref (gb Γ)] (gs Γ) none [] (gs Γ) with
  | none => rw [hv] at h; simp at h
  | some w =>
    refine ⟨w, ?_, LT.of hΓ hl hi hv⟩
    rw [hv] at h
    cases w <;> simp at h ⊢
abbrev flt (P : PH → Prop) (a : Nat) (fs : List Value) : PH → Prop := NBg P a (.inr (1, fs))
theorem flt_put {fs : List Value} {k : Nat} {v : Value} (hk : k < fs.length) : ∀ h, flt P a fs h → ∃ fs', h a = some (.inr (1, fs')) ∧ k < fs'.length ∧ flt P a (fs.set k v) (pu h a (.inr (1, fs'.set k v))) := fun h ⟨h0, w, ha, e⟩ => ⟨fs, by rw [e, pu_self], hk, h0, w, ha, by rw [e, pu_pu]⟩
abbrev fl0 : List Value := [.null, .null, .null, .null, .null, .int 0]
theorem c_JthrInit : Ct Γ A yJ0_init_2 wJ0_init_2 2 0 0 [.ref a, .null, .null, .int 0, .int 0] (flt P a fl0) (RV (flt P a fl0)) := by
  refine Ct.of (cc := cJ0_init_2) (nL := 5) (ret := none) (ls := [some (.ref a), some .null, some .null, some (.int 0), some (.int 0)]) rfl rfl rfl (nle rfl) ?_
  intro K hK hQ
  obtain ⟨w1, hw1, lt1⟩ := LT.ref hK.g (nw_ref1 hK.g) q657 (lw_all_tbl q71)
  obtain ⟨w2, hw2, lt2⟩ := LT.ref hK.g (nw_ref2 hK.g) q659 (lw_all_tbl q71)
  refine j_aload_n (pc := 0) hK dJ0_init_2_0 rfl ?_
  refine j_obj (pc := 1) hK hQ q655 dJ0_init_2_1 (by decide) (by decide) ?_
  refine j_aload_n (pc := 4) hK dJ0_init_2_4 rfl ?_
  refine j_aload_n (pc := 5) hK dJ0_init_2_5 rfl ?_
  refine j_put (pc := 6) (k := 0) (ci := 1) hK rfl in_X1 tyX1_ok nmX1 (by decide) q701 (fun _ h => h) rfl rfl rfl dJ0_init_2_6 (flt_put (nle rfl)) ?_
  refine j_aload_n (pc := 9) hK dJ0_init_2_9 rfl ?_
  refine j_gst (pc := 10) hK lt1 q656 dJ0_init_2_10 ?_
  refine j_put (pc := 13) (k := 1) (ci := 1) hK rfl in_X1 tyX1_ok nmX1 (by decide) q702 (fun _ h => h) rfl (by rcases hw1 with rfl | ⟨x, rfl⟩ <;> rfl) (by rcases hw1 with rfl | ⟨x, rfl⟩ <;> rfl) dJ0_init_2_13 (flt_put (nle rfl)) ?_
  refine j_aload_n (pc := 16) hK dJ0_init_2_16 rfl ?_
  refine j_gst (pc := 17) hK lt2 q658 dJ0_init_2_17 ?_
  refine j_put (pc := 20) (k := 2) (ci := 1) hK rfl in_X1 tyX1_ok nmX1 (by decide) q703 (fun _ h => h) rfl (by rcases hw2 with rfl | ⟨x, rfl⟩ <;> rfl) (by rcases hw2 with rfl | ⟨x, rfl⟩ <;> rfl) dJ0_init_2_20 (flt_put (nle rfl)) ?_
  refine j_iload (pc := 23) hK dJ0_init_2_23 rfl ?_
  refine j_if_eq (pc := 25) (tgt := 36) hK dJ0_init_2_25 (by decide) (fun c25 => ?_) (fun c25 => absurd (by decide) c25)
  refine j_aload_n (pc := 36) hK dJ0_init_2_36 rfl ?_
  refine j_null (pc := 37) hK dJ0_init_2_37 ?_
  refine j_put (pc := 38) (k := 1) (ci := 1) hK rfl in_X1 tyX1_ok nmX1 (by decide) q702 (fun _ h => h) rfl rfl rfl dJ0_init_2_38 (flt_put (nle rfl)) ?_
  refine j_aload_n (pc := 41) hK dJ0_init_2_41 rfl ?_
  refine j_aload_nN (pc := 42) hK dJ0_init_2_42 rfl ?_
  refine j_put (pc := 43) (k := 3) (ci := 1) hK rfl in_X1 tyX1_ok nmX1 (by decide) q700 (fun _ h => h) rfl rfl rfl dJ0_init_2_43 (flt_put (nle rfl)) ?_
  refine j_aload_n (pc := 46) hK dJ0_init_2_46 rfl ?_
  refine j_aload_nN (pc := 47) hK dJ0_init_2_47 rfl ?_
  refine j_put (pc := 48) (k := 0) (ci := 1) hK rfl in_X1 tyX1_ok nmX1 (by decide) q701 (fun _ h => h) rfl rfl rfl dJ0_init_2_48 (flt_put (nle rfl)) ?_
  refine j_iload_n (pc := 51) hK dJ0_init_2_51 rfl ?_
  refine j_if_ne (pc := 52) (tgt := 60) hK dJ0_init_2_52 (by decide) (fun c52 => absurd (by decide) c52) (fun c52 => ?_)
  refine j_aload_n (pc := 55) hK dJ0_init_2_55 rfl ?_
  refine j_null (pc := 56) hK dJ0_init_2_56 ?_
  refine j_put (pc := 57) (k := 2) (ci := 1) hK rfl in_X1 tyX1_ok nmX1 (by decide) q703 (fun _ h => h) rfl rfl rfl dJ0_init_2_57 (flt_put (nle rfl)) ?_
  exact j_vret (pc := 60) hK hQ (nle rfl) (nle rfl) dJ0_init_2_60 (fun h w => ⟨rfl, w⟩)
theorem c_JexcInit : Ct Γ A yJ1_init wJ1_init 3 0 0 [.ref a, .null, .null, .int 0, .int 0] (flt P a fl0) (RV (flt P a fl0)) := by
  refine Ct.of (cc := cJ1_init) (nL := 5) (ret := none) (ls := [some (.ref a), some .null, some .null, some (.int 0), some (.int 0)]) rfl rfl rfl (nle rfl) ?_
  intro K hK hQ
  refine j_aload_n (pc := 0) hK dJ1_init_0 rfl ?_
  refine j_aload_nN (pc := 1) hK dJ1_init_1 rfl ?_
  refine j_aload_nN (pc := 2) hK dJ1_init_2 rfl ?_
  refine j_iload_n (pc := 3) hK dJ1_init_3 rfl ?_
  refine j_iload (pc := 4) hK dJ1_init_4 rfl ?_
  refine j_callI (pc := 6) hK hQ (c_JthrInit) cal_J0_init_2 q696 dJ1_init_6 rfl rfl (nle rfl) (nle rfl) (nle rfl) (nle rfl) (kr_v ?_) kx_v
  exact j_vret (pc := 9) hK hQ (nle rfl) (nle rfl) dJ1_init_9 (fun h w => ⟨rfl, w⟩)
theorem c_JrunInit : Ct Γ A yJ2_init wJ2_init 4 0 0 [.ref a, .null, .null, .int 0, .int 0] (flt P a fl0) (RV (flt P a fl0)) := by
  refine Ct.of (cc := cJ2_init) (nL := 5) (ret := none) (ls := [some (.ref a), some .null, some .null, some (.int 0), some (.int 0)]) rfl rfl rfl (nle rfl) ?_
  intro K hK hQ
  refine j_aload_n (pc := 0) hK dJ2_init_0 rfl ?_
  refine j_aload_nN (pc := 1) hK dJ2_init_1 rfl ?_
  refine j_aload_nN (pc := 2) hK dJ2_init_2 rfl ?_
  refine j_iload_n (pc := 3) hK dJ2_init_3 rfl ?_
  refine j_iload (pc := 4) hK dJ2_init_4 rfl ?_
  refine j_callI (pc := 6) hK hQ (c_JexcInit) cal_J1_init q693 dJ2_init_6 rfl rfl (nle rfl) (nle rfl) (nle rfl) (nle rfl) (kr_v ?_) kx_v
  exact j_vret (pc := 9) hK hQ (nle rfl) (nle rfl) dJ2_init_9 (fun h w => ⟨rfl, w⟩)
theorem c_XfaultInit : Ct Γ A yX1_init wX1_init 5 0 0 [.ref a] (flt P a fl0) (RV (flt P a fl0)) := by
  refine Ct.of (cc := cX1_init) (nL := 1) (ret := none) (ls := [some (.ref a)]) rfl rfl rfl (nle rfl) ?_
  intro K hK hQ
  refine j_aload_n (pc := 0) hK dX1_init_0 rfl ?_
  refine j_null (pc := 1) hK dX1_init_1 ?_
  refine j_null (pc := 2) hK dX1_init_2 ?_
  refine j_iconst (pc := 3) (v := 0) hK dX1_init_3 (by decide) ?_
  refine j_iconst (pc := 4) (v := 0) hK dX1_init_4 (by decide) ?_
  refine j_callI (pc := 5) hK hQ (c_JrunInit) cal_J2_init q690 dX1_init_5 rfl rfl (nle rfl) (nle rfl) (nle rfl) (nle rfl) (kr_v ?_) kx_v
  exact j_vret (pc := 8) hK hQ (nle rfl) (nle rfl) dX1_init_8 (fun h w => ⟨rfl, w⟩)
theorem c_XsheetInit : Ct Γ A yX2_init wX2_init 1 0 0 [.ref a] P (RV P) := by
  refine Ct.of (cc := cX2_init) (nL := 1) (ret := none) (ls := [some (.ref a)]) rfl rfl rfl (nle rfl) ?_
  intro K hK hQ
  refine j_aload_n (pc := 0) hK dX2_init_0 rfl ?_
  refine j_obj (pc := 1) hK hQ q737 dX2_init_1 (by decide) (by decide) ?_
  exact j_vret (pc := 4) hK hQ (nle rfl) (nle rfl) dX2_init_4 (fun h w => ⟨rfl, w⟩)
end P9D
