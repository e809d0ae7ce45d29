/-! the class reads: plus, not, one; all of them -/
set_option maxRecDepth 100000
section X77
variable {Γ : Gam} {A : Nat → Prop} {L : Nat → Nat} {f : Nat → Int32} {g : Nat → Int32 → Int32} {T : TX} {t : Nat → Int32} {n m : Nat} {R : PH → Prop}
theorem ky_nm {p : Nat} (h : 0 ≤ kyI t n p) : nmP t n p = 0 := by
  rcases ky_rng (t := t) (n := n) (p := p) with z | ⟨k, hk, z⟩
  · rw [z] at h; exact absurd h (by decide)
  · have hw := ky_inv hk z
    have e2 : ∀ w : List Int32, isW t n p w ↔ wKeys.getD k [] = w := fun w => ⟨fun z => hw.2.symm.trans z.2, fun z => ⟨hw.1, hw.2.trans z⟩⟩
    unfold nmP
    simp only [e2]
    clear hw e2 z h
    rcases n6 hk with rfl | rfl | rfl | rfl | rfl | rfl <;> decide
theorem thr_x {u p o : Nat} {c : List Int32} {y x : Nat × Option (List Int32)} (hl : ¬ gd t n u → y.1 = u) (hz : ext c y = x) (hb : ¬ gd t n u) : x.1 = u := by
  rw [← hz]
  exact hl hb
theorem s_Xplus (hn : n ≤ 160) (IH : ∀ j, j ≤ m → XCt Γ A L f g T t n j) : XCs Γ A L f g T t n (m + 1) := by
  intro p o S x hp ho hX hg hx
  rw [pr_5] at hx
  refine Ct.of (cc := cX0_plus) (nL := 3) (ret := (some (.object "BoatsCalledIn$Node"))) (ls := [some (.ref (L 35)), none, none]) rfl rfl rfl (nle rfl) ?_
  intro K hK hQ
  have loop : ∀ (j : Nat), j ≤ m → ∀ (q : Nat) (S1 : PH) (a1 : Nat) (c1 : List Int32) (y : Nat × Option (List Int32)), p ≤ q → q ≤ n → gd t n q → Sb S S1 → NoX S1 → NTe S1 (L 35) a1 c1 → pr t n j 6 q o = some y → ext c1 y = x → J Γ A K 5 [some (.ref (L 35)), some (.ref a1), none] [] (XQ Γ L f g T (TK t n q o) (Sb S1)) (q - p) (3 * (q - p)) := by
    intro j
    induction j with
    | zero => intro _ q S1 a1 c1 y _ _ _ _ _ _ h; cases h
    | succ j ihj =>
      intro hj q S1 a1 c1 y hpq hq hgq hS1 hX1 hN1 hy hz
      have hxq : q ≤ x.1 := by rw [← hz]; exact (pr_len _ _ _ _ _ hq hy).1
      rw [pr_6] at hy
      have hE := en_le (t := t) hq
      by_cases hs : isS t n q 43 ∨ isS t n q 45
      · rw [if_pos hs] at hy
        have hgt := en_gt hq (hs.elim isS_0 isS_0)
        have hso : ∃ sg op, isS t n q sg ∧ (if isS t n q 43 then (-16 : Int32) else -17) = op ∧ (sg, op) ∈ ([(124, -11), (38, -12), (60, -14), (61, -15), (43, -16), (45, -17), (42, -18)] : List (Int32 × Int32)) := by
          by_cases h43 : isS t n q 43
          · exact ⟨43, -16, h43, if_pos h43, by decide⟩
          · exact ⟨45, -17, hs.resolve_left h43, if_neg h43, by decide⟩
        obtain ⟨sg, op, hsg, hop, hmem⟩ := hso
        rw [hop] at hy
        have rest : J Γ A K 23 [some (.ref (L 35)), some (.ref a1), none] [] (XQ Γ L f g T (TK t n q o) (Sb S1)) (q - p) (3 * (q - p)) := by
          refine xz_open fun xx r e => ?_
          rcases sq_x hy with ⟨u, e1, rfl⟩ | ⟨u, d, y', e1, e2, e3⟩
          · have e4 := ap_y e1
            have hl := (pr_len _ _ _ _ _ hE.2.1 e4)
            have hx1 : x.1 = u := by rw [← hz]; rfl
            have hx2 : x.2 = none := by rw [← hz]; rfl
            have hl0 : enP t n q ≤ u := hl.1
            have hb : ∀ S2, NoX S2 → gd t n (enP t n q) → Ct Γ A yX0_times wX0_times (8 * (5 - o) + 11) (u - enP t n q) (3 * (u - enP t n q)) [.ref (L 35)] (XQ Γ L f g T (TK t n (enP t n q) o) (Sb S2)) (PZ Γ L f g T t n o S2 (u, none)) := fun S2 h2 h3 => IH j (by omega) (enP t n q) o S2 (u, none) hE.2.1 ho h2 h3 e4
            refine j_aload_n (pc := 23) hK dX0_plus_23 rfl ?_
            refine xc_get (pc := 24) (k := 22) (v := sg) hK (fun _ w => w.1) (by decide) rfl ((tk_sign e.2.2).mpr hsg).2 q773 rfl dX0_plus_24 ?_
            refine j_ist2 (pc := 27) hK dX0_plus_27 (by decide) rfl ?_
            refine j_aload_n (pc := 28) hK dX0_plus_28 rfl ?_
            refine J.mono (P' := XQ Γ L f g T (TB t n (enP t n q) o) (Sb S1)) (fun h w => xz_close w r e.1) ?_
            refine j_callV (pc := 29) hK hQ (c_Xnext hX1.st' hn hE.2.1) cal_X0_next xq_isC q395 dX0_plus_29 rfl rfl (by omega) (by omega) (by omega) (nle rfl) (kr_t (kr_v ?_)) (kx_t nt_v fun x => jt_leave hK hQ (by decide) (by omega) (by omega) (fun h w => PZ.thr (hx1.trans (congrArg Prod.fst (bad_7 w.2.1 e4))) (Or.inl hx2) w.1 w.2.2))
            refine J.pre fun hgE => ?_
            refine j_new (pc := 32) (ci := 6) (fs := [.int 0, .null, .null]) hK hQ rfl in_X7 tyX7_ok q609 q610 q86 (by decide) (by omega) (by omega) dX0_plus_32 (fun a32 => ?_)
            refine xq_raw hX1 fun hno => ?_
            refine j_dup (pc := 35) hK dX0_plus_35 rfl ?_
            refine j_iload_n (pc := 36) hK dX0_plus_36 rfl ?_
            refine j_aload_n (pc := 37) hK dX0_plus_37 rfl ?_
            refine j_aload_n (pc := 38) hK dX0_plus_38 rfl ?_
            refine j_callV (pc := 39) hK hQ (hb (pu S1 a32 raw7) (hX1.puS _ (by decide)) hgE) cal_X0_times xq_isC q574 dX0_plus_39 rfl rfl (by omega) (by omega) (by omega) (nle rfl) (kr_t (kr_r fun r39 => ?_)) (kx_t nt_r fun x => jt_leave hK hQ (by decide) (by omega) (by omega) (fun h w => PZ.thr hx1 (Or.inl hx2) w.1 w.2.2))
            exact pz_open fun c a S' z => by cases z
          · obtain ⟨c, e4, rfl⟩ := ap_x e1
            have hl := (pr_len _ _ _ _ _ hE.2.1 e4)
            have hl0 : enP t n q ≤ u := hl.1
            have hl1 : u ≤ n := hl.2.1
            have hl2 := (pr_len _ _ _ _ _ hl1 e2)
            have hxy : ext (c1 ++ (c ++ [op])) y' = x := (e3 c1).trans hz
            have hx1 : x.1 = y'.1 := by rw [← hxy]; rfl
            have hl3 : u ≤ y'.1 := hl2.1
            have hb : ∀ S2, NoX S2 → gd t n (enP t n q) → Ct Γ A yX0_times wX0_times (8 * (5 - o) + 11) (u - enP t n q) (3 * (u - enP t n q)) [.ref (L 35)] (XQ Γ L f g T (TK t n (enP t n q) o) (Sb S2)) (PZ Γ L f g T t n o S2 (u, some c)) := fun S2 h2 h3 => IH j (by omega) (enP t n q) o S2 (u, some c) hE.2.1 ho h2 h3 e4
            refine j_aload_n (pc := 23) hK dX0_plus_23 rfl ?_
            refine xc_get (pc := 24) (k := 22) (v := sg) hK (fun _ w => w.1) (by decide) rfl ((tk_sign e.2.2).mpr hsg).2 q773 rfl dX0_plus_24 ?_
            refine j_ist2 (pc := 27) hK dX0_plus_27 (by decide) rfl ?_
            refine j_aload_n (pc := 28) hK dX0_plus_28 rfl ?_
            refine J.mono (P' := XQ Γ L f g T (TB t n (enP t n q) o) (Sb S1)) (fun h w => xz_close w r e.1) ?_
            refine j_callV (pc := 29) hK hQ (c_Xnext hX1.st' hn hE.2.1) cal_X0_next xq_isC q395 dX0_plus_29 rfl rfl (by omega) (by omega) (by omega) (nle rfl) (kr_t (kr_v ?_)) (kx_t nt_v fun x => jt_leave hK hQ (by decide) (by omega) (by omega) (fun h w => by cases (bad_7 w.2.1 e4)))
            refine J.pre fun hgE => ?_
            refine j_new (pc := 32) (ci := 6) (fs := [.int 0, .null, .null]) hK hQ rfl in_X7 tyX7_ok q609 q610 q86 (by decide) (by omega) (by omega) dX0_plus_32 (fun a32 => ?_)
            refine xq_raw hX1 fun hno => ?_
            refine j_dup (pc := 35) hK dX0_plus_35 rfl ?_
            refine j_iload_n (pc := 36) hK dX0_plus_36 rfl ?_
            refine j_aload_n (pc := 37) hK dX0_plus_37 rfl ?_
            refine j_aload_n (pc := 38) hK dX0_plus_38 rfl ?_
            refine j_callV (pc := 39) hK hQ (hb (pu S1 a32 raw7) (hX1.puS _ (by decide)) hgE) cal_X0_times xq_isC q574 dX0_plus_39 rfl rfl (by omega) (by omega) (by omega) (nle rfl) (kr_t (kr_r fun r39 => ?_)) (kx_t nt_r fun x => jt_leave hK hQ (by decide) (by omega) (by omega) (fun h w => PZ.thr (hx1.trans (congrArg Prod.fst (bad_l6 (w.2.1.resolve_left (fun z => by cases z)) e2))) (Or.inr (w.2.1.resolve_left (fun z => by cases z))) w.1 w.2.2))
            refine pz_open fun c' b S2 hc' hgu hS2 hX2 hN2 => ?_
            cases hc'
            refine J.mono (fun h w => xq_out hS2 w) ?_
            refine j_callI (pc := 42) hK hQ (c_I7) cal_X7_init q611 dX0_plus_42 rfl rfl (by omega) (by omega) (by omega) (nle rfl) (kr_v ?_) kx_v
            refine j_ast1 (pc := 45) hK dX0_plus_45 (by decide) rfl ?_
            refine j_goto (pc := 46) (tgt := 5) hK dX0_plus_46 (by decide) ?_
            refine J.mono (fun h w => xq_in w) ?_
            exact J.wide (by omega) (by omega) (J.fg [some (.ref (L 35)), some (.ref a32), none] (by simp [subL]) (ihj (by omega) u _ a32 _ y' (by omega) hl1 hgu (hS1.trans (sb_step hno hS2)) (hX2.dl.puS _ (by decide)) (nt_two (hN1.mono (sb_stepD hno hS2)) (hN2.dl hS2) del_s hmem) e2 hxy))
        refine j_aload_n (pc := 5) hK dX0_plus_5 rfl ?_
        refine j_bipush (pc := 6) (v := 43) hK dX0_plus_6 (by decide) ?_
        refine j_callV (pc := 8) hK hQ (c_XisSign (fun _ e => e.2.2) _) cal_X0_isSign xq_isC q605 dX0_plus_8 rfl rfl (by omega) (by omega) (by omega) (nle rfl) (kr_i fun r8 => ?_) kx_i
        refine J.pre fun e8 => ?_
        subst e8
        refine j_if_ne_b (pc := 11) (tgt := 23) hK dX0_plus_11 (by decide) (fun c11 => ?_) (fun c11 => ?_)
        · exact rest
        · refine j_aload_n (pc := 14) hK dX0_plus_14 rfl ?_
          refine j_bipush (pc := 15) (v := 45) hK dX0_plus_15 (by decide) ?_
          refine j_callV (pc := 17) hK hQ (c_XisSign (fun _ e => e.2.2) _) cal_X0_isSign xq_isC q605 dX0_plus_17 rfl rfl (by omega) (by omega) (by omega) (nle rfl) (kr_i fun r17 => ?_) kx_i
          refine J.pre fun e17 => ?_
          subst e17
          refine j_if_eq_b (pc := 20) (tgt := 49) hK dX0_plus_20 (by decide) (fun c20 => ?_) (fun c20 => ?_)
          · exact absurd hs (fun z => z.elim c11 c20)
          · exact rest
      · rw [if_neg hs] at hy
        cases hy
        have hx1 : x = (q, some c1) := by rw [← hz]; show (q, some (c1 ++ [])) = _; rw [List.append_nil]
        have hx2 : x.1 = q := by rw [hx1]
        refine j_aload_n (pc := 5) hK dX0_plus_5 rfl ?_
        refine j_bipush (pc := 6) (v := 43) hK dX0_plus_6 (by decide) ?_
        refine j_callV (pc := 8) hK hQ (c_XisSign (fun _ e => e.2.2) _) cal_X0_isSign xq_isC q605 dX0_plus_8 rfl rfl (by omega) (by omega) (by omega) (nle rfl) (kr_i fun r8 => ?_) kx_i
        refine J.pre fun e8 => ?_
        subst e8
        refine j_if_ne_b (pc := 11) (tgt := 23) hK dX0_plus_11 (by decide) (fun c11 => absurd c11 (fun z => hs (Or.inl z))) (fun c11 => ?_)
        refine j_aload_n (pc := 14) hK dX0_plus_14 rfl ?_
        refine j_bipush (pc := 15) (v := 45) hK dX0_plus_15 (by decide) ?_
        refine j_callV (pc := 17) hK hQ (c_XisSign (fun _ e => e.2.2) _) cal_X0_isSign xq_isC q605 dX0_plus_17 rfl rfl (by omega) (by omega) (by omega) (nle rfl) (kr_i fun r17 => ?_) kx_i
        refine J.pre fun e17 => ?_
        subst e17
        refine j_if_eq_b (pc := 20) (tgt := 49) hK dX0_plus_20 (by decide) (fun c20 => ?_) (fun c20 => absurd c20 (fun z => hs (Or.inr z)))
        refine j_aload_n (pc := 49) hK dX0_plus_49 rfl ?_
        exact j_aret (pc := 50) hK hQ (Or.inl ⟨_, rfl⟩) (Or.inr ⟨_, rfl⟩) (by omega) (by omega) dX0_plus_50 (fun h w => PZ.ret hx1 hgq hS1 hX1 hN1 w)
  rcases sq_x hx with ⟨q, e1, rfl⟩ | ⟨q, c, y, e1, e2, e3⟩
  · have hb : Ct Γ A yX0_times wX0_times (8 * (5 - o) + 11) (q - p) (3 * (q - p)) [.ref (L 35)] (XQ Γ L f g T (TK t n p o) (Sb S)) (PZ Γ L f g T t n o S (q, none)) := IH m (Nat.le_refl _) p o S (q, none) hp ho hX hg e1
    have hl := (pr_len _ _ _ _ _ hp e1)
    have hl0 : p ≤ q := hl.1
    refine j_aload_n (pc := 0) hK dX0_plus_0 rfl ?_
    refine j_callV (pc := 1) hK hQ (hb) cal_X0_times xq_isC q574 dX0_plus_1 rfl rfl (by omega) (Nat.le_of_eq (Nat.zero_add _)) (Nat.le_of_eq (Nat.zero_add _)) (nle rfl) (kr_t (kr_r fun r1 => ?_)) (kx_t nt_r fun x => jt_leave hK hQ (by decide) (Nat.le_of_eq (Nat.zero_add _)) (Nat.le_of_eq (Nat.zero_add _)) (fun h w => PZ.thr rfl (Or.inl rfl) w.1 w.2.2))
    exact pz_open fun c a S' z => by cases z
  · have hl := (pr_len _ _ _ _ _ hp e1)
    have hl0 : p ≤ q := hl.1
    have hl1 : q ≤ n := hl.2.1
    have hl2 := (pr_len _ _ _ _ _ hl1 e2)
    have hxy : ext c y = x := by rw [← ext_nil x]; exact e3 []
    have hx1 : x.1 = y.1 := by rw [← hxy]; rfl
    have hl3 : q ≤ y.1 := hl2.1
    have hb : Ct Γ A yX0_times wX0_times (8 * (5 - o) + 11) (q - p) (3 * (q - p)) [.ref (L 35)] (XQ Γ L f g T (TK t n p o) (Sb S)) (PZ Γ L f g T t n o S (q, some c)) := IH m (Nat.le_refl _) p o S (q, some c) hp ho hX hg e1
    refine j_aload_n (pc := 0) hK dX0_plus_0 rfl ?_
    refine j_callV (pc := 1) hK hQ (hb) cal_X0_times xq_isC q574 dX0_plus_1 rfl rfl (by omega) (by omega) (by omega) (nle rfl) (kr_t (kr_r fun r1 => ?_)) (kx_t nt_r fun x => jt_leave hK hQ (by decide) (by omega) (by omega) (fun h w => PZ.thr (hx1.trans (congrArg Prod.fst (bad_l6 (w.2.1.resolve_left (fun z => by cases z)) e2))) (Or.inr (w.2.1.resolve_left (fun z => by cases z))) w.1 w.2.2))
    refine pz_open fun c' a1 S1 hc' hgq hS1 hX1 hN1 => ?_
    cases hc'
    refine j_ast1 (pc := 4) hK dX0_plus_4 (by decide) rfl ?_
    exact J.wide (by omega) (by omega) (loop m (Nat.le_refl _) q S1 a1 c y hl0 hl1 hgq hS1 hX1 hN1 e2 hxy)
theorem s_Xnot (hn : n ≤ 160) (IHn : XCn Γ A L f g T t n m) (IHs : XCs Γ A L f g T t n m) : XCn Γ A L f g T t n (m + 1) := by
  intro p o S x hp ho hX hg hx
  rw [pr_4] at hx
  refine Ct.of (cc := cX0_not) (nL := 3) (ret := (some (.object "BoatsCalledIn$Node"))) (ls := [some (.ref (L 35)), none, none]) rfl rfl rfl (nle rfl) ?_
  intro K hK hQ
  have hE := en_le (t := t) hp
  by_cases hw : isW t n p wNot
  · rw [if_pos hw] at hx
    have hgt := en_gt hp (isW_0 hw)
    by_cases h5 : o = 5
    · rw [if_pos h5] at hx
      cases hx
      refine j_aload_n (pc := 0) hK dX0_not_0 rfl ?_
      refine j_iconst (pc := 1) (v := 5) hK dX0_not_1 (by decide) ?_
      refine j_callV (pc := 2) hK hQ (c_XisKeyC (k := 5) (fun _ e => e.2.2) (by decide) rfl) cal_X0_isKey xq_isC q529 dX0_not_2 rfl rfl (by omega) (by omega) (by omega) (nle rfl) (kr_i fun r2 => ?_) kx_i
      refine J.pre fun e2 => ?_
      subst e2
      refine j_if_eq_b (pc := 5) (tgt := 37) hK dX0_not_5 (by decide) (fun c5 => absurd hw c5) (fun c5 => ?_)
      refine j_aload_n (pc := 8) hK dX0_not_8 rfl ?_
      refine j_callV (pc := 9) hK hQ (c_XopenF (fun x e => by rw [e.1.2.2.2, h5])) cal_X0_openOne xq_isC q549 dX0_not_9 rfl rfl (by omega) (by omega) (by omega) (nle rfl) (kr_t (kr_v ?_)) (kx_t nt_v fun x => jt_leave hK hQ (by decide) (by omega) (by omega) (fun h w => PZ.thr rfl (Or.inl rfl) w.1 (xq_mono (fun _ e => e.2.1) _ w.2)))
      exact J.void (fun _ z => z)
    · rw [if_neg h5] at hx
      rcases ap_c hx with ⟨u, e1, rfl⟩ | ⟨u, c, e1, rfl⟩
      · have hl := (pr_len _ _ _ _ _ hE.2.1 e1)
        have hl0 : enP t n p ≤ u := hl.1
        have hb : gd t n (enP t n p) → Ct Γ A yX0_not wX0_not (8 * (5 - (o + 1)) + 13) (u - enP t n p) (3 * (u - enP t n p)) [.ref (L 35)] (XQ Γ L f g T (TK t n (enP t n p) (o + 1)) (Sb S)) (PZ Γ L f g T t n (o + 1) S (u, none)) := fun h3 => IHn (enP t n p) (o + 1) S (u, none) hE.2.1 (by omega) hX h3 e1
        refine j_aload_n (pc := 0) hK dX0_not_0 rfl ?_
        refine j_iconst (pc := 1) (v := 5) hK dX0_not_1 (by decide) ?_
        refine j_callV (pc := 2) hK hQ (c_XisKeyC (k := 5) (fun _ e => e.2.2) (by decide) rfl) cal_X0_isKey xq_isC q529 dX0_not_2 rfl rfl (by omega) (by omega) (by omega) (nle rfl) (kr_i fun r2 => ?_) kx_i
        refine J.pre fun e2 => ?_
        subst e2
        refine j_if_eq_b (pc := 5) (tgt := 37) hK dX0_not_5 (by decide) (fun c5 => absurd hw c5) (fun c5 => ?_)
        refine j_aload_n (pc := 8) hK dX0_not_8 rfl ?_
        refine J.mono (xq_mono (fun _ e => e.1)) ?_
        refine j_callV (pc := 9) hK hQ (c_XopenT hX.st' hn hE.2.1 (by omega)) cal_X0_openOne xq_isC q549 dX0_not_9 rfl rfl (by omega) (by omega) (by omega) (nle rfl) (kr_t (kr_v ?_)) (kx_t nt_v fun x => jt_leave hK hQ (by decide) (by omega) (by omega) (fun h w => PZ.thr (congrArg Prod.fst (bad_4 w.2.1 e1)) (Or.inl rfl) w.1 w.2.2))
        refine J.pre fun hgE => ?_
        refine j_aload_n (pc := 12) hK dX0_not_12 rfl ?_
        refine j_callV (pc := 13) hK hQ (hb hgE) cal_X0_not xq_isC q545 dX0_not_13 rfl rfl (by omega) (by omega) (by omega) (nle rfl) (kr_t (kr_r fun r13 => ?_)) (kx_t nt_r fun x => jt_leave hK hQ (by decide) (by omega) (by omega) (fun h w => PZ.thr rfl (Or.inl rfl) w.1 w.2.2))
        exact pz_open fun c a S' z => by cases z
      · have hl := (pr_len _ _ _ _ _ hE.2.1 e1)
        have hl0 : enP t n p ≤ u := hl.1
        have hb : gd t n (enP t n p) → Ct Γ A yX0_not wX0_not (8 * (5 - (o + 1)) + 13) (u - enP t n p) (3 * (u - enP t n p)) [.ref (L 35)] (XQ Γ L f g T (TK t n (enP t n p) (o + 1)) (Sb S)) (PZ Γ L f g T t n (o + 1) S (u, some c)) := fun h3 => IHn (enP t n p) (o + 1) S (u, some c) hE.2.1 (by omega) hX h3 e1
        refine j_aload_n (pc := 0) hK dX0_not_0 rfl ?_
        refine j_iconst (pc := 1) (v := 5) hK dX0_not_1 (by decide) ?_
        refine j_callV (pc := 2) hK hQ (c_XisKeyC (k := 5) (fun _ e => e.2.2) (by decide) rfl) cal_X0_isKey xq_isC q529 dX0_not_2 rfl rfl (by omega) (by omega) (by omega) (nle rfl) (kr_i fun r2 => ?_) kx_i
        refine J.pre fun e2 => ?_
        subst e2
        refine j_if_eq_b (pc := 5) (tgt := 37) hK dX0_not_5 (by decide) (fun c5 => absurd hw c5) (fun c5 => ?_)
        refine j_aload_n (pc := 8) hK dX0_not_8 rfl ?_
        refine J.mono (xq_mono (fun _ e => e.1)) ?_
        refine j_callV (pc := 9) hK hQ (c_XopenT hX.st' hn hE.2.1 (by omega)) cal_X0_openOne xq_isC q549 dX0_not_9 rfl rfl (by omega) (by omega) (by omega) (nle rfl) (kr_t (kr_v ?_)) (kx_t nt_v fun x => jt_leave hK hQ (by decide) (by omega) (by omega) (fun h w => by cases (bad_4 w.2.1 e1)))
        refine J.pre fun hgE => ?_
        refine j_aload_n (pc := 12) hK dX0_not_12 rfl ?_
        refine j_callV (pc := 13) hK hQ (hb hgE) cal_X0_not xq_isC q545 dX0_not_13 rfl rfl (by omega) (by omega) (by omega) (nle rfl) (kr_t (kr_r fun r13 => ?_)) (kx_t nt_r fun x => jt_leave hK hQ (by decide) (by omega) (by omega) (fun h w => PZ.thr rfl (Or.inr (w.2.1.resolve_left (fun z => by cases z))) w.1 w.2.2))
        refine pz_open fun c' b S2 hc' hgu hS2 hX2 hN2 => ?_
        cases hc'
        refine j_ast1 (pc := 16) hK dX0_not_16 (by decide) rfl ?_
        refine xz_open fun xx r e => ?_
        have hR := hX2.st'
        refine j_aload_n (pc := 17) hK dX0_not_17 rfl ?_
        refine j_dup (pc := 18) hK dX0_not_18 rfl ?_
        refine xc_get (pc := 19) (k := 23) (v := nI (o + 1)) hK (fun _ w => w.1) (by decide) rfl e.1.2.2.2 q774 rfl dX0_not_19 ?_
        refine j_iconst (pc := 22) (v := 1) hK dX0_not_22 (by decide) ?_
        refine j_isub (pc := 23) hK dX0_not_23 ?_
        refine xz_put (pc := 24) (k := 23) hR hK (by decide) rfl q774 rfl rfl rfl rfl dX0_not_24 ?_
        rw [nI_pred]
        refine J.mono (P' := XQ Γ L f g T (TK t n u o) (Sb S2)) (fun h w => xz_close w (r.pH (k := 23) rfl) ⟨⟨e.1.1, e.1.2.1, e.1.2.2.1, rfl⟩, e.2.1, e.2.2⟩) ?_
        refine j_new (pc := 27) (ci := 3) (fs := [.null, .int 0]) hK hQ rfl in_X4 tyX4_ok q553 q554 q83 (by decide) (by omega) (by omega) dX0_not_27 (fun a27 => ?_)
        refine nbg_no fun hno => ?_
        refine j_dup (pc := 30) hK dX0_not_30 rfl ?_
        refine j_aload_n (pc := 31) hK dX0_not_31 rfl ?_
        refine j_iconst (pc := 32) (v := 0) hK dX0_not_32 (by decide) ?_
        refine j_callI (pc := 33) hK hQ (c_I4 (P := XQ Γ L f g T (TK t n u o) (Sb S2)) rfl rfl) cal_X4_init q555 dX0_not_33 rfl rfl (by omega) (by omega) (by omega) (nle rfl) (kr_v ?_) kx_v
        exact j_aret (pc := 36) hK hQ (Or.inl ⟨_, rfl⟩) (Or.inr ⟨_, rfl⟩) (by omega) (by omega) dX0_not_36 (fun h w => PZ.ret rfl hgu (hS2.trans (Sb.new _ (Sb.refl _) hno)) (hX2.puS _ (by decide)) (nt_turn hN2 hno (Or.inl rfl)) (xq_in w))
  · rw [if_neg hw] at hx
    rcases sq_x hx with ⟨q, e1, rfl⟩ | ⟨q, c1, y, e1, e2, e3⟩
    · have hb : Ct Γ A yX0_plus wX0_plus (8 * (5 - o) + 12) (q - p) (3 * (q - p)) [.ref (L 35)] (XQ Γ L f g T (TK t n p o) (Sb S)) (PZ Γ L f g T t n o S (q, none)) := IHs p o S (q, none) hp ho hX hg e1
      have hl := (pr_len _ _ _ _ _ hp e1)
      have hl0 : p ≤ q := hl.1
      refine j_aload_n (pc := 0) hK dX0_not_0 rfl ?_
      refine j_iconst (pc := 1) (v := 5) hK dX0_not_1 (by decide) ?_
      refine j_callV (pc := 2) hK hQ (c_XisKeyC (k := 5) (fun _ e => e.2.2) (by decide) rfl) cal_X0_isKey xq_isC q529 dX0_not_2 rfl rfl (by omega) (by omega) (by omega) (nle rfl) (kr_i fun r2 => ?_) kx_i
      refine J.pre fun e2 => ?_
      subst e2
      refine j_if_eq_b (pc := 5) (tgt := 37) hK dX0_not_5 (by decide) (fun c5 => ?_) (fun c5 => absurd c5 hw)
      refine j_aload_n (pc := 37) hK dX0_not_37 rfl ?_
      refine j_callV (pc := 38) hK hQ (hb) cal_X0_plus xq_isC q570 dX0_not_38 rfl rfl (by omega) (by omega) (by omega) (nle rfl) (kr_t (kr_r fun r38 => ?_)) (kx_t nt_r fun x => jt_leave hK hQ (by decide) (by omega) (by omega) (fun h w => PZ.thr rfl (Or.inl rfl) w.1 w.2.2))
      exact pz_open fun c a S' z => by cases z
    · have hl := (pr_len _ _ _ _ _ hp e1)
      have hl0 : p ≤ q := hl.1
      have hl1 : q ≤ n := hl.2.1
      have hz : ext c1 y = x := by rw [← ext_nil x]; exact e3 []
      have hb : Ct Γ A yX0_plus wX0_plus (8 * (5 - o) + 12) (q - p) (3 * (q - p)) [.ref (L 35)] (XQ Γ L f g T (TK t n p o) (Sb S)) (PZ Γ L f g T t n o S (q, some c1)) := IHs p o S (q, some c1) hp ho hX hg e1
      have hE2 := en_le (t := t) hl1
      by_cases hs : isS t n q 60 ∨ isS t n q 61
      · rw [if_pos hs] at e2
        have hgt := en_gt hl1 (hs.elim isS_0 isS_0)
        have hso : ∃ sg op, isS t n q sg ∧ (if isS t n q 60 then (-14 : Int32) else -15) = op ∧ (sg, op) ∈ ([(124, -11), (38, -12), (60, -14), (61, -15), (43, -16), (45, -17), (42, -18)] : List (Int32 × Int32)) := by
          by_cases h43 : isS t n q 60
          · exact ⟨60, -14, h43, if_pos h43, by decide⟩
          · exact ⟨61, -15, hs.resolve_left h43, if_neg h43, by decide⟩
        obtain ⟨sg, op, hsg, hop, hmem⟩ := hso
        rw [hop] at e2
        have hgq : gd t n q := Or.inr (Or.inr (Or.inl hsg.1))
        have hlx : q ≤ x.1 := by
          have : x.1 = y.1 := by rw [← hz]; rfl
          rcases ap_c e2 with ⟨u, e4, rfl⟩ | ⟨u, d, e4, rfl⟩
          · have hl := (pr_len _ _ _ _ _ hE2.2.1 e4).1
            simp only at hl this
            omega
          · have hl := (pr_len _ _ _ _ _ hE2.2.1 e4).1
            simp only at hl this
            omega
        have rest : ∀ (a1 : Nat) (S1 : PH), Sb S S1 → NoX S1 → NTe S1 (L 35) a1 c1 → J Γ A K 60 [some (.ref (L 35)), some (.ref a1), none] [] (XQ Γ L f g T (TK t n q o) (Sb S1)) (q - p) (3 * (q - p)) := by
          intro a1 S1 hS1 hX1 hN1
          clear hb
          refine xz_open fun xx r e => ?_
          rcases ap_c e2 with ⟨u, e4, rfl⟩ | ⟨u, c, e4, rfl⟩
          · have hl := (pr_len _ _ _ _ _ hE2.2.1 e4)
            have hx1 : x.1 = u := by rw [← hz]; rfl
            have hx2 : x.2 = none := by rw [← hz]; rfl
            have hl0 : enP t n q ≤ u := hl.1
            have hb : ∀ S2, NoX S2 → gd t n (enP t n q) → Ct Γ A yX0_plus wX0_plus (8 * (5 - o) + 12) (u - enP t n q) (3 * (u - enP t n q)) [.ref (L 35)] (XQ Γ L f g T (TK t n (enP t n q) o) (Sb S2)) (PZ Γ L f g T t n o S2 (u, none)) := fun S2 h2 h3 => IHs (enP t n q) o S2 (u, none) hE2.2.1 ho h2 h3 e4
            refine j_aload_n (pc := 60) hK dX0_not_60 rfl ?_
            refine xc_get (pc := 61) (k := 22) (v := sg) hK (fun _ w => w.1) (by decide) rfl ((tk_sign e.2.2).mpr hsg).2 q773 rfl dX0_not_61 ?_
            refine j_ist2 (pc := 64) hK dX0_not_64 (by decide) rfl ?_
            refine j_aload_n (pc := 65) hK dX0_not_65 rfl ?_
            refine J.mono (P' := XQ Γ L f g T (TB t n (enP t n q) o) (Sb S1)) (fun h w => xz_close w r e.1) ?_
            refine j_callV (pc := 66) hK hQ (c_Xnext hX1.st' hn hE2.2.1) cal_X0_next xq_isC q395 dX0_not_66 rfl rfl (by omega) (by omega) (by omega) (nle rfl) (kr_t (kr_v ?_)) (kx_t nt_v fun x => jt_leave hK hQ (by decide) (by omega) (by omega) (fun h w => PZ.thr (hx1.trans (congrArg Prod.fst (bad_5 w.2.1 e4))) (Or.inl hx2) w.1 w.2.2))
            refine J.pre fun hgE => ?_
            refine j_new (pc := 69) (ci := 6) (fs := [.int 0, .null, .null]) hK hQ rfl in_X7 tyX7_ok q609 q610 q86 (by decide) (by omega) (by omega) dX0_not_69 (fun a69 => ?_)
            refine xq_raw hX1 fun hno => ?_
            refine j_dup (pc := 72) hK dX0_not_72 rfl ?_
            refine j_iload_n (pc := 73) hK dX0_not_73 rfl ?_
            refine j_aload_n (pc := 74) hK dX0_not_74 rfl ?_
            refine j_aload_n (pc := 75) hK dX0_not_75 rfl ?_
            refine j_callV (pc := 76) hK hQ (hb (pu S1 a69 raw7) (hX1.puS _ (by decide)) hgE) cal_X0_plus xq_isC q570 dX0_not_76 rfl rfl (by omega) (by omega) (by omega) (nle rfl) (kr_t (kr_r fun r76 => ?_)) (kx_t nt_r fun x => jt_leave hK hQ (by decide) (by omega) (by omega) (fun h w => PZ.thr hx1 (Or.inl hx2) w.1 w.2.2))
            exact pz_open fun c a S' z => by cases z
          · have hl := (pr_len _ _ _ _ _ hE2.2.1 e4)
            have hl0 : enP t n q ≤ u := hl.1
            have hl1 : u ≤ n := hl.2.1
            have hx0 : x = (u, some (c1 ++ (c ++ [op]))) := by rw [← hz]; rfl
            have hx1 : x.1 = u := by rw [hx0]
            have hb : ∀ S2, NoX S2 → gd t n (enP t n q) → Ct Γ A yX0_plus wX0_plus (8 * (5 - o) + 12) (u - enP t n q) (3 * (u - enP t n q)) [.ref (L 35)] (XQ Γ L f g T (TK t n (enP t n q) o) (Sb S2)) (PZ Γ L f g T t n o S2 (u, some c)) := fun S2 h2 h3 => IHs (enP t n q) o S2 (u, some c) hE2.2.1 ho h2 h3 e4
            refine j_aload_n (pc := 60) hK dX0_not_60 rfl ?_
            refine xc_get (pc := 61) (k := 22) (v := sg) hK (fun _ w => w.1) (by decide) rfl ((tk_sign e.2.2).mpr hsg).2 q773 rfl dX0_not_61 ?_
            refine j_ist2 (pc := 64) hK dX0_not_64 (by decide) rfl ?_
            refine j_aload_n (pc := 65) hK dX0_not_65 rfl ?_
            refine J.mono (P' := XQ Γ L f g T (TB t n (enP t n q) o) (Sb S1)) (fun h w => xz_close w r e.1) ?_
            refine j_callV (pc := 66) hK hQ (c_Xnext hX1.st' hn hE2.2.1) cal_X0_next xq_isC q395 dX0_not_66 rfl rfl (by omega) (by omega) (by omega) (nle rfl) (kr_t (kr_v ?_)) (kx_t nt_v fun x => jt_leave hK hQ (by decide) (by omega) (by omega) (fun h w => by cases (bad_5 w.2.1 e4)))
            refine J.pre fun hgE => ?_
            refine j_new (pc := 69) (ci := 6) (fs := [.int 0, .null, .null]) hK hQ rfl in_X7 tyX7_ok q609 q610 q86 (by decide) (by omega) (by omega) dX0_not_69 (fun a69 => ?_)
            refine xq_raw hX1 fun hno => ?_
            refine j_dup (pc := 72) hK dX0_not_72 rfl ?_
            refine j_iload_n (pc := 73) hK dX0_not_73 rfl ?_
            refine j_aload_n (pc := 74) hK dX0_not_74 rfl ?_
            refine j_aload_n (pc := 75) hK dX0_not_75 rfl ?_
            refine j_callV (pc := 76) hK hQ (hb (pu S1 a69 raw7) (hX1.puS _ (by decide)) hgE) cal_X0_plus xq_isC q570 dX0_not_76 rfl rfl (by omega) (by omega) (by omega) (nle rfl) (kr_t (kr_r fun r76 => ?_)) (kx_t nt_r fun x => jt_leave hK hQ (by decide) (by omega) (by omega) (fun h w => PZ.thr hx1 (Or.inr (w.2.1.resolve_left (fun z => by cases z))) w.1 w.2.2))
            refine pz_open fun c' b S2 hc' hgu hS2 hX2 hN2 => ?_
            cases hc'
            refine J.mono (fun h w => xq_out hS2 w) ?_
            refine j_callI (pc := 79) hK hQ (c_I7) cal_X7_init q611 dX0_not_79 rfl rfl (by omega) (by omega) (by omega) (nle rfl) (kr_v ?_) kx_v
            refine j_ast1 (pc := 82) hK dX0_not_82 (by decide) rfl ?_
            refine j_aload_n (pc := 83) hK dX0_not_83 rfl ?_
            exact j_aret (pc := 84) hK hQ (Or.inl ⟨_, rfl⟩) (Or.inr ⟨_, rfl⟩) (by omega) (by omega) dX0_not_84 (fun h w => PZ.ret hx0 hgu (hS1.trans (sb_step hno hS2)) (hX2.dl.puS _ (by decide)) (nt_two (hN1.mono (sb_stepD hno hS2)) (hN2.dl hS2) del_s hmem) (xq_in w))
        refine j_aload_n (pc := 0) hK dX0_not_0 rfl ?_
        refine j_iconst (pc := 1) (v := 5) hK dX0_not_1 (by decide) ?_
        refine j_callV (pc := 2) hK hQ (c_XisKeyC (k := 5) (fun _ e => e.2.2) (by decide) rfl) cal_X0_isKey xq_isC q529 dX0_not_2 rfl rfl (by omega) (by omega) (by omega) (nle rfl) (kr_i fun r2 => ?_) kx_i
        refine J.pre fun e2 => ?_
        subst e2
        refine j_if_eq_b (pc := 5) (tgt := 37) hK dX0_not_5 (by decide) (fun c5 => ?_) (fun c5 => absurd c5 hw)
        refine j_aload_n (pc := 37) hK dX0_not_37 rfl ?_
        refine j_callV (pc := 38) hK hQ (hb) cal_X0_plus xq_isC q570 dX0_not_38 rfl rfl (by omega) (by omega) (by omega) (nle rfl) (kr_t (kr_r fun r38 => ?_)) (kx_t nt_r fun x => jt_leave hK hQ (by decide) (by omega) (by omega) (fun h w => absurd hgq (w.2.1.resolve_left (fun z => by cases z))))
        refine pz_open fun c' a1 S1 hc' hgq hS1 hX1 hN1 => ?_
        cases hc'
        refine j_ast1 (pc := 41) hK dX0_not_41 (by decide) rfl ?_
        refine j_aload_n (pc := 42) hK dX0_not_42 rfl ?_
        refine j_bipush (pc := 43) (v := 60) hK dX0_not_43 (by decide) ?_
        refine j_callV (pc := 45) hK hQ (c_XisSign (fun _ e => e.2.2) _) cal_X0_isSign xq_isC q605 dX0_not_45 rfl rfl (by omega) (by omega) (by omega) (nle rfl) (kr_i fun r45 => ?_) kx_i
        refine J.pre fun e45 => ?_
        subst e45
        refine j_if_ne_b (pc := 48) (tgt := 60) hK dX0_not_48 (by decide) (fun c48 => ?_) (fun c48 => ?_)
        · exact J.wide (by omega) (by omega) (rest a1 S1 hS1 hX1 hN1)
        · refine j_aload_n (pc := 51) hK dX0_not_51 rfl ?_
          refine j_bipush (pc := 52) (v := 61) hK dX0_not_52 (by decide) ?_
          refine j_callV (pc := 54) hK hQ (c_XisSign (fun _ e => e.2.2) _) cal_X0_isSign xq_isC q605 dX0_not_54 rfl rfl (by omega) (by omega) (by omega) (nle rfl) (kr_i fun r54 => ?_) kx_i
          refine J.pre fun e54 => ?_
          subst e54
          refine j_if_eq_b (pc := 57) (tgt := 83) hK dX0_not_57 (by decide) (fun c57 => ?_) (fun c57 => ?_)
          · exact absurd hs (fun z => z.elim c48 c57)
          · exact J.wide (by omega) (by omega) (rest a1 S1 hS1 hX1 hN1)
      · rw [if_neg hs] at e2
        cases e2
        have hx0 : x = (q, some c1) := by rw [← hz]; show (q, some (c1 ++ [])) = _; rw [List.append_nil]
        have hx1 : x.1 = q := by rw [hx0]
        refine j_aload_n (pc := 0) hK dX0_not_0 rfl ?_
        refine j_iconst (pc := 1) (v := 5) hK dX0_not_1 (by decide) ?_
        refine j_callV (pc := 2) hK hQ (c_XisKeyC (k := 5) (fun _ e => e.2.2) (by decide) rfl) cal_X0_isKey xq_isC q529 dX0_not_2 rfl rfl (by omega) (by omega) (by omega) (nle rfl) (kr_i fun r2 => ?_) kx_i
        refine J.pre fun e2 => ?_
        subst e2
        refine j_if_eq_b (pc := 5) (tgt := 37) hK dX0_not_5 (by decide) (fun c5 => ?_) (fun c5 => absurd c5 hw)
        refine j_aload_n (pc := 37) hK dX0_not_37 rfl ?_
        refine j_callV (pc := 38) hK hQ (hb) cal_X0_plus xq_isC q570 dX0_not_38 rfl rfl (by omega) (by omega) (by omega) (nle rfl) (kr_t (kr_r fun r38 => ?_)) (kx_t nt_r fun x => jt_leave hK hQ (by decide) (by omega) (by omega) (fun h w => PZ.thr hx1 (Or.inr (w.2.1.resolve_left (fun z => by cases z))) w.1 w.2.2))
        refine pz_open fun c' a1 S1 hc' hgq hS1 hX1 hN1 => ?_
        cases hc'
        refine j_ast1 (pc := 41) hK dX0_not_41 (by decide) rfl ?_
        refine j_aload_n (pc := 42) hK dX0_not_42 rfl ?_
        refine j_bipush (pc := 43) (v := 60) hK dX0_not_43 (by decide) ?_
        refine j_callV (pc := 45) hK hQ (c_XisSign (fun _ e => e.2.2) _) cal_X0_isSign xq_isC q605 dX0_not_45 rfl rfl (by omega) (by omega) (by omega) (nle rfl) (kr_i fun r45 => ?_) kx_i
        refine J.pre fun e45 => ?_
        subst e45
        refine j_if_ne_b (pc := 48) (tgt := 60) hK dX0_not_48 (by decide) (fun c48 => absurd c48 (fun z => hs (Or.inl z))) (fun c48 => ?_)
        refine j_aload_n (pc := 51) hK dX0_not_51 rfl ?_
        refine j_bipush (pc := 52) (v := 61) hK dX0_not_52 (by decide) ?_
        refine j_callV (pc := 54) hK hQ (c_XisSign (fun _ e => e.2.2) _) cal_X0_isSign xq_isC q605 dX0_not_54 rfl rfl (by omega) (by omega) (by omega) (nle rfl) (kr_i fun r54 => ?_) kx_i
        refine J.pre fun e54 => ?_
        subst e54
        refine j_if_eq_b (pc := 57) (tgt := 83) hK dX0_not_57 (by decide) (fun c57 => ?_) (fun c57 => absurd c57 (fun z => hs (Or.inr z)))
        refine j_aload_n (pc := 83) hK dX0_not_83 rfl ?_
        exact j_aret (pc := 84) hK hQ (Or.inl ⟨_, rfl⟩) (Or.inr ⟨_, rfl⟩) (by omega) (by omega) dX0_not_84 (fun h w => PZ.ret hx0 hgq hS1 hX1 hN1 w)
theorem s_Xone (hn : n ≤ 160) (IHo : XCo Γ A L f g T t n m) (IHa : XCa Γ A L f g T t n m) : XCo Γ A L f g T t n (m + 1) := by
  intro p o S x hp ho hX hg hx
  have hx := (pr_9 t n m p o 0).symm.trans hx
  refine Ct.of (cc := cX0_one) (nL := 3) (ret := (some (.object "BoatsCalledIn$Node"))) (ls := [some (.ref (L 35)), none, none]) rfl rfl rfl (nle rfl) ?_
  intro K hK hQ
  have hE := en_le (t := t) hp
  have rest : ∀ v : Int32, ¬ soP t n p = 1 → ¬ 0 < nmP t n p → J Γ A K 48 [some (.ref (L 35)), some (.int v), none] [] (XQ Γ L f g T (TK t n p o) (Sb S)) 0 0 := by
    intro v h1 h2
    rw [if_neg h1, if_neg h2] at hx
    by_cases hs : isS t n p 45
    · rw [if_pos hs] at hx
      have hgt := en_gt hp (isS_0 hs)
      by_cases h5 : o = 5
      · rw [if_pos h5] at hx
        cases hx
        refine j_aload_n (pc := 48) hK dX0_one_48 rfl ?_
        refine j_bipush (pc := 49) (v := 45) hK dX0_one_49 (by decide) ?_
        refine j_callV (pc := 51) hK hQ (c_XisSign (fun _ e => e.2.2) _) cal_X0_isSign xq_isC q605 dX0_one_51 rfl rfl (by omega) (by omega) (by omega) (nle rfl) (kr_i fun r51 => ?_) kx_i
        refine J.pre fun e51 => ?_
        subst e51
        refine j_if_eq_b (pc := 54) (tgt := 86) hK dX0_one_54 (by decide) (fun c54 => absurd hs c54) (fun c54 => ?_)
        refine j_aload_n (pc := 57) hK dX0_one_57 rfl ?_
        refine j_callV (pc := 58) hK hQ (c_XopenF (fun x e => by rw [e.1.2.2.2, h5])) cal_X0_openOne xq_isC q549 dX0_one_58 rfl rfl (by omega) (by omega) (by omega) (nle rfl) (kr_t (kr_v ?_)) (kx_t nt_v fun x => jt_leave hK hQ (by decide) (by omega) (by omega) (fun h w => PZ.thr rfl (Or.inl rfl) w.1 (xq_mono (fun _ e => e.2.1) _ w.2)))
        exact J.void (fun _ z => z)
      · rw [if_neg h5] at hx
        rcases ap_c hx with ⟨u, e1, rfl⟩ | ⟨u, c, e1, rfl⟩
        · have hl := (pr_len _ _ _ _ _ hE.2.1 e1)
          have hl0 : enP t n p ≤ u := hl.1
          have hb : gd t n (enP t n p) → Ct Γ A yX0_one wX0_one (8 * (5 - (o + 1)) + 10) (u - enP t n p) (3 * (u - enP t n p)) [.ref (L 35)] (XQ Γ L f g T (TK t n (enP t n p) (o + 1)) (Sb S)) (PZ Γ L f g T t n (o + 1) S (u, none)) := fun h3 => IHo (enP t n p) (o + 1) S (u, none) hE.2.1 (by omega) hX h3 e1
          refine j_aload_n (pc := 48) hK dX0_one_48 rfl ?_
          refine j_bipush (pc := 49) (v := 45) hK dX0_one_49 (by decide) ?_
          refine j_callV (pc := 51) hK hQ (c_XisSign (fun _ e => e.2.2) _) cal_X0_isSign xq_isC q605 dX0_one_51 rfl rfl (by omega) (by omega) (by omega) (nle rfl) (kr_i fun r51 => ?_) kx_i
          refine J.pre fun e51 => ?_
          subst e51
          refine j_if_eq_b (pc := 54) (tgt := 86) hK dX0_one_54 (by decide) (fun c54 => absurd hs c54) (fun c54 => ?_)
          refine j_aload_n (pc := 57) hK dX0_one_57 rfl ?_
          refine J.mono (xq_mono (fun _ e => e.1)) ?_
          refine j_callV (pc := 58) hK hQ (c_XopenT hX.st' hn hE.2.1 (by omega)) cal_X0_openOne xq_isC q549 dX0_one_58 rfl rfl (by omega) (by omega) (by omega) (nle rfl) (kr_t (kr_v ?_)) (kx_t nt_v fun x => jt_leave hK hQ (by decide) (by omega) (by omega) (fun h w => PZ.thr (congrArg Prod.fst (bad_9 0 w.2.1 e1)) (Or.inl rfl) w.1 w.2.2))
          refine J.pre fun hgE => ?_
          refine j_aload_n (pc := 61) hK dX0_one_61 rfl ?_
          refine j_callV (pc := 62) hK hQ (hb hgE) cal_X0_one xq_isC q578 dX0_one_62 rfl rfl (by omega) (by omega) (by omega) (nle rfl) (kr_t (kr_r fun r62 => ?_)) (kx_t nt_r fun x => jt_leave hK hQ (by decide) (by omega) (by omega) (fun h w => PZ.thr rfl (Or.inl rfl) w.1 w.2.2))
          exact pz_open fun c a S' z => by cases z
        · have hl := (pr_len _ _ _ _ _ hE.2.1 e1)
          have hl0 : enP t n p ≤ u := hl.1
          have hb : gd t n (enP t n p) → Ct Γ A yX0_one wX0_one (8 * (5 - (o + 1)) + 10) (u - enP t n p) (3 * (u - enP t n p)) [.ref (L 35)] (XQ Γ L f g T (TK t n (enP t n p) (o + 1)) (Sb S)) (PZ Γ L f g T t n (o + 1) S (u, some c)) := fun h3 => IHo (enP t n p) (o + 1) S (u, some c) hE.2.1 (by omega) hX h3 e1
          refine j_aload_n (pc := 48) hK dX0_one_48 rfl ?_
          refine j_bipush (pc := 49) (v := 45) hK dX0_one_49 (by decide) ?_
          refine j_callV (pc := 51) hK hQ (c_XisSign (fun _ e => e.2.2) _) cal_X0_isSign xq_isC q605 dX0_one_51 rfl rfl (by omega) (by omega) (by omega) (nle rfl) (kr_i fun r51 => ?_) kx_i
          refine J.pre fun e51 => ?_
          subst e51
          refine j_if_eq_b (pc := 54) (tgt := 86) hK dX0_one_54 (by decide) (fun c54 => absurd hs c54) (fun c54 => ?_)
          refine j_aload_n (pc := 57) hK dX0_one_57 rfl ?_
          refine J.mono (xq_mono (fun _ e => e.1)) ?_
          refine j_callV (pc := 58) hK hQ (c_XopenT hX.st' hn hE.2.1 (by omega)) cal_X0_openOne xq_isC q549 dX0_one_58 rfl rfl (by omega) (by omega) (by omega) (nle rfl) (kr_t (kr_v ?_)) (kx_t nt_v fun x => jt_leave hK hQ (by decide) (by omega) (by omega) (fun h w => by cases (bad_9 0 w.2.1 e1)))
          refine J.pre fun hgE => ?_
          refine j_aload_n (pc := 61) hK dX0_one_61 rfl ?_
          refine j_callV (pc := 62) hK hQ (hb hgE) cal_X0_one xq_isC q578 dX0_one_62 rfl rfl (by omega) (by omega) (by omega) (nle rfl) (kr_t (kr_r fun r62 => ?_)) (kx_t nt_r fun x => jt_leave hK hQ (by decide) (by omega) (by omega) (fun h w => PZ.thr rfl (Or.inr (w.2.1.resolve_left (fun z => by cases z))) w.1 w.2.2))
          refine pz_open fun c' b S2 hc' hgu hS2 hX2 hN2 => ?_
          cases hc'
          refine j_ast2 (pc := 65) hK dX0_one_65 (by decide) rfl ?_
          refine xz_open fun xx r e => ?_
          have hR := hX2.st'
          refine j_aload_n (pc := 66) hK dX0_one_66 rfl ?_
          refine j_dup (pc := 67) hK dX0_one_67 rfl ?_
          refine xc_get (pc := 68) (k := 23) (v := nI (o + 1)) hK (fun _ w => w.1) (by decide) rfl e.1.2.2.2 q774 rfl dX0_one_68 ?_
          refine j_iconst (pc := 71) (v := 1) hK dX0_one_71 (by decide) ?_
          refine j_isub (pc := 72) hK dX0_one_72 ?_
          refine xz_put (pc := 73) (k := 23) hR hK (by decide) rfl q774 rfl rfl rfl rfl dX0_one_73 ?_
          rw [nI_pred]
          refine J.mono (P' := XQ Γ L f g T (TK t n u o) (Sb S2)) (fun h w => xz_close w (r.pH (k := 23) rfl) ⟨⟨e.1.1, e.1.2.1, e.1.2.2.1, rfl⟩, e.2.1, e.2.2⟩) ?_
          refine j_new (pc := 76) (ci := 3) (fs := [.null, .int 0]) hK hQ rfl in_X4 tyX4_ok q553 q554 q83 (by decide) (by omega) (by omega) dX0_one_76 (fun a76 => ?_)
          refine nbg_no fun hno => ?_
          refine j_dup (pc := 79) hK dX0_one_79 rfl ?_
          refine j_aload_n (pc := 80) hK dX0_one_80 rfl ?_
          refine j_iconst (pc := 81) (v := 1) hK dX0_one_81 (by decide) ?_
          refine j_callI (pc := 82) hK hQ (c_I4 (P := XQ Γ L f g T (TK t n u o) (Sb S2)) rfl rfl) cal_X4_init q555 dX0_one_82 rfl rfl (by omega) (by omega) (by omega) (nle rfl) (kr_v ?_) kx_v
          exact j_aret (pc := 85) hK hQ (Or.inl ⟨_, rfl⟩) (Or.inr ⟨_, rfl⟩) (by omega) (by omega) dX0_one_85 (fun h w => PZ.ret rfl hgu (hS2.trans (Sb.new _ (Sb.refl _) hno)) (hX2.puS _ (by decide)) (nt_turn hN2 hno (Or.inr rfl)) (xq_in w))
    · rw [if_neg hs] at hx
      by_cases h4 : isS t n p 40
      · have hgt := en_gt hp (isS_0 h4)
        by_cases h5 : o = 5
        · rw [if_neg (fun z => z.2 h5)] at hx
          cases hx
          refine j_aload_n (pc := 48) hK dX0_one_48 rfl ?_
          refine j_bipush (pc := 49) (v := 45) hK dX0_one_49 (by decide) ?_
          refine j_callV (pc := 51) hK hQ (c_XisSign (fun _ e => e.2.2) _) cal_X0_isSign xq_isC q605 dX0_one_51 rfl rfl (by omega) (by omega) (by omega) (nle rfl) (kr_i fun r51 => ?_) kx_i
          refine J.pre fun e51 => ?_
          subst e51
          refine j_if_eq_b (pc := 54) (tgt := 86) hK dX0_one_54 (by decide) (fun c54 => ?_) (fun c54 => absurd c54 hs)
          refine j_aload_n (pc := 86) hK dX0_one_86 rfl ?_
          refine j_bipush (pc := 87) (v := 40) hK dX0_one_87 (by decide) ?_
          refine j_callV (pc := 89) hK hQ (c_XisSign (fun _ e => e.2.2) _) cal_X0_isSign xq_isC q605 dX0_one_89 rfl rfl (by omega) (by omega) (by omega) (nle rfl) (kr_i fun r89 => ?_) kx_i
          refine J.pre fun e89 => ?_
          subst e89
          refine j_if_ne_b (pc := 92) (tgt := 100) hK dX0_one_92 (by decide) (fun c92 => ?_) (fun c92 => absurd h4 c92)
          refine j_aload_n (pc := 100) hK dX0_one_100 rfl ?_
          refine j_callV (pc := 101) hK hQ (c_XopenF (fun x e => by rw [e.1.2.2.2, h5])) cal_X0_openOne xq_isC q549 dX0_one_101 rfl rfl (by omega) (by omega) (by omega) (nle rfl) (kr_t (kr_v ?_)) (kx_t nt_v fun x => jt_leave hK hQ (by decide) (by omega) (by omega) (fun h w => PZ.thr rfl (Or.inl rfl) w.1 (xq_mono (fun _ e => e.2.1) _ w.2)))
          exact J.void (fun _ z => z)
        · rw [if_pos ⟨h4, h5⟩] at hx
          rcases cl_c hx with ⟨q, e1, rfl⟩ | ⟨q, c, e1, e2⟩
          · have hl := (pr_len _ _ _ _ _ hE.2.1 e1)
            have hl0 : enP t n p ≤ q := hl.1
            have hb : gd t n (enP t n p) → Ct Γ A yX0_either wX0_either (8 * (5 - (o + 1)) + 15) (q - enP t n p) (3 * (q - enP t n p)) [.ref (L 35)] (XQ Γ L f g T (TK t n (enP t n p) (o + 1)) (Sb S)) (PZ Γ L f g T t n (o + 1) S (q, none)) := fun h3 => IHa (enP t n p) (o + 1) S (q, none) hE.2.1 (by omega) hX h3 e1
            refine j_aload_n (pc := 48) hK dX0_one_48 rfl ?_
            refine j_bipush (pc := 49) (v := 45) hK dX0_one_49 (by decide) ?_
            refine j_callV (pc := 51) hK hQ (c_XisSign (fun _ e => e.2.2) _) cal_X0_isSign xq_isC q605 dX0_one_51 rfl rfl (by omega) (by omega) (by omega) (nle rfl) (kr_i fun r51 => ?_) kx_i
            refine J.pre fun e51 => ?_
            subst e51
            refine j_if_eq_b (pc := 54) (tgt := 86) hK dX0_one_54 (by decide) (fun c54 => ?_) (fun c54 => absurd c54 hs)
            refine j_aload_n (pc := 86) hK dX0_one_86 rfl ?_
            refine j_bipush (pc := 87) (v := 40) hK dX0_one_87 (by decide) ?_
            refine j_callV (pc := 89) hK hQ (c_XisSign (fun _ e => e.2.2) _) cal_X0_isSign xq_isC q605 dX0_one_89 rfl rfl (by omega) (by omega) (by omega) (nle rfl) (kr_i fun r89 => ?_) kx_i
            refine J.pre fun e89 => ?_
            subst e89
            refine j_if_ne_b (pc := 92) (tgt := 100) hK dX0_one_92 (by decide) (fun c92 => ?_) (fun c92 => absurd h4 c92)
            refine j_aload_n (pc := 100) hK dX0_one_100 rfl ?_
            refine J.mono (xq_mono (fun _ e => e.1)) ?_
            refine j_callV (pc := 101) hK hQ (c_XopenT hX.st' hn hE.2.1 (by omega)) cal_X0_openOne xq_isC q549 dX0_one_101 rfl rfl (by omega) (by omega) (by omega) (nle rfl) (kr_t (kr_v ?_)) (kx_t nt_v fun x => jt_leave hK hQ (by decide) (by omega) (by omega) (fun h w => PZ.thr (congrArg Prod.fst (bad_p0 w.2.1 e1)) (Or.inl rfl) w.1 w.2.2))
            refine J.pre fun hgE => ?_
            refine j_aload_n (pc := 104) hK dX0_one_104 rfl ?_
            refine j_callV (pc := 105) hK hQ (hb hgE) cal_X0_either xq_isC q537 dX0_one_105 rfl rfl (by omega) (by omega) (by omega) (nle rfl) (kr_t (kr_r fun r105 => ?_)) (kx_t nt_r fun x => jt_leave hK hQ (by decide) (by omega) (by omega) (fun h w => PZ.thr rfl (Or.inl rfl) w.1 w.2.2))
            exact pz_open fun c a S' z => by cases z
          · have hl := (pr_len _ _ _ _ _ hE.2.1 e1)
            have hl0 : enP t n p ≤ q := hl.1
            have hl1 : q ≤ n := hl.2.1
            have hE2 := en_le (t := t) hl1
            have hb : gd t n (enP t n p) → Ct Γ A yX0_either wX0_either (8 * (5 - (o + 1)) + 15) (q - enP t n p) (3 * (q - enP t n p)) [.ref (L 35)] (XQ Γ L f g T (TK t n (enP t n p) (o + 1)) (Sb S)) (PZ Γ L f g T t n (o + 1) S (q, some c)) := fun h3 => IHa (enP t n p) (o + 1) S (q, some c) hE.2.1 (by omega) hX h3 e1
            rcases e2 with ⟨h41, rfl⟩ | ⟨h41, rfl⟩
            · have hgt2 := en_gt hl1 (isS_0 h41)
              refine j_aload_n (pc := 48) hK dX0_one_48 rfl ?_
              refine j_bipush (pc := 49) (v := 45) hK dX0_one_49 (by decide) ?_
              refine j_callV (pc := 51) hK hQ (c_XisSign (fun _ e => e.2.2) _) cal_X0_isSign xq_isC q605 dX0_one_51 rfl rfl (by omega) (by omega) (by omega) (nle rfl) (kr_i fun r51 => ?_) kx_i
              refine J.pre fun e51 => ?_
              subst e51
              refine j_if_eq_b (pc := 54) (tgt := 86) hK dX0_one_54 (by decide) (fun c54 => ?_) (fun c54 => absurd c54 hs)
              refine j_aload_n (pc := 86) hK dX0_one_86 rfl ?_
              refine j_bipush (pc := 87) (v := 40) hK dX0_one_87 (by decide) ?_
              refine j_callV (pc := 89) hK hQ (c_XisSign (fun _ e => e.2.2) _) cal_X0_isSign xq_isC q605 dX0_one_89 rfl rfl (by omega) (by omega) (by omega) (nle rfl) (kr_i fun r89 => ?_) kx_i
              refine J.pre fun e89 => ?_
              subst e89
              refine j_if_ne_b (pc := 92) (tgt := 100) hK dX0_one_92 (by decide) (fun c92 => ?_) (fun c92 => absurd h4 c92)
              refine j_aload_n (pc := 100) hK dX0_one_100 rfl ?_
              refine J.mono (xq_mono (fun _ e => e.1)) ?_
              refine j_callV (pc := 101) hK hQ (c_XopenT hX.st' hn hE.2.1 (by omega)) cal_X0_openOne xq_isC q549 dX0_one_101 rfl rfl (by omega) (by omega) (by omega) (nle rfl) (kr_t (kr_v ?_)) (kx_t nt_v fun x => jt_leave hK hQ (by decide) (by omega) (by omega) (fun h w => by cases (bad_p0 w.2.1 e1)))
              refine J.pre fun hgE => ?_
              refine j_aload_n (pc := 104) hK dX0_one_104 rfl ?_
              refine j_callV (pc := 105) hK hQ (hb hgE) cal_X0_either xq_isC q537 dX0_one_105 rfl rfl (by omega) (by omega) (by omega) (nle rfl) (kr_t (kr_r fun r105 => ?_)) (kx_t nt_r fun x => jt_leave hK hQ (by decide) (by omega) (by omega) (fun h w => absurd h41 (bad_s (w.2.1.resolve_left (fun z => by cases z)))))
              refine pz_open fun c' b S2 hc' hgu hS2 hX2 hN2 => ?_
              cases hc'
              refine j_ast2 (pc := 108) hK dX0_one_108 (by decide) rfl ?_
              refine j_aload_n (pc := 109) hK dX0_one_109 rfl ?_
              refine j_bipush (pc := 110) (v := 41) hK dX0_one_110 (by decide) ?_
              refine j_callV (pc := 112) hK hQ (c_XisSign (fun _ e => e.2.2) _) cal_X0_isSign xq_isC q605 dX0_one_112 rfl rfl (by omega) (by omega) (by omega) (nle rfl) (kr_i fun r112 => ?_) kx_i
              refine J.pre fun e112 => ?_
              subst e112
              refine j_if_ne_b (pc := 115) (tgt := 123) hK dX0_one_115 (by decide) (fun c115 => ?_) (fun c115 => absurd h41 c115)
              refine xz_open fun xx r e => ?_
              have hR := hX2.st'
              refine j_aload_n (pc := 123) hK dX0_one_123 rfl ?_
              refine j_dup (pc := 124) hK dX0_one_124 rfl ?_
              refine xc_get (pc := 125) (k := 23) (v := nI (o + 1)) hK (fun _ w => w.1) (by decide) rfl e.1.2.2.2 q774 rfl dX0_one_125 ?_
              refine j_iconst (pc := 128) (v := 1) hK dX0_one_128 (by decide) ?_
              refine j_isub (pc := 129) hK dX0_one_129 ?_
              refine xz_put (pc := 130) (k := 23) hR hK (by decide) rfl q774 rfl rfl rfl rfl dX0_one_130 ?_
              rw [nI_pred]
              refine J.mono (P' := XQ Γ L f g T (TB t n (enP t n q) o) (Sb S2)) (fun h w => xz_close w (r.pH (k := 23) rfl) ⟨e.1.1, e.1.2.1, e.1.2.2.1, rfl⟩) ?_
              refine j_aload_n (pc := 133) hK dX0_one_133 rfl ?_
              refine j_callV (pc := 134) hK hQ (c_Xnext hX2.st' hn hE2.2.1) cal_X0_next xq_isC q395 dX0_one_134 rfl rfl (by omega) (by omega) (by omega) (nle rfl) (kr_t (kr_v ?_)) (kx_t nt_v fun x => jt_leave hK hQ (by decide) (by omega) (by omega) (fun h w => PZ.thr rfl (Or.inr w.2.1) w.1 w.2.2))
              refine J.pre fun hgE2 => ?_
              refine j_aload_n (pc := 137) hK dX0_one_137 rfl ?_
              exact j_aret (pc := 138) hK hQ (Or.inl ⟨_, rfl⟩) (Or.inr ⟨_, rfl⟩) (by omega) (by omega) dX0_one_138 (fun h w => PZ.ret rfl hgE2 hS2 hX2 hN2 w)
            · skip
              refine j_aload_n (pc := 48) hK dX0_one_48 rfl ?_
              refine j_bipush (pc := 49) (v := 45) hK dX0_one_49 (by decide) ?_
              refine j_callV (pc := 51) hK hQ (c_XisSign (fun _ e => e.2.2) _) cal_X0_isSign xq_isC q605 dX0_one_51 rfl rfl (by omega) (by omega) (by omega) (nle rfl) (kr_i fun r51 => ?_) kx_i
              refine J.pre fun e51 => ?_
              subst e51
              refine j_if_eq_b (pc := 54) (tgt := 86) hK dX0_one_54 (by decide) (fun c54 => ?_) (fun c54 => absurd c54 hs)
              refine j_aload_n (pc := 86) hK dX0_one_86 rfl ?_
              refine j_bipush (pc := 87) (v := 40) hK dX0_one_87 (by decide) ?_
              refine j_callV (pc := 89) hK hQ (c_XisSign (fun _ e => e.2.2) _) cal_X0_isSign xq_isC q605 dX0_one_89 rfl rfl (by omega) (by omega) (by omega) (nle rfl) (kr_i fun r89 => ?_) kx_i
              refine J.pre fun e89 => ?_
              subst e89
              refine j_if_ne_b (pc := 92) (tgt := 100) hK dX0_one_92 (by decide) (fun c92 => ?_) (fun c92 => absurd h4 c92)
              refine j_aload_n (pc := 100) hK dX0_one_100 rfl ?_
              refine J.mono (xq_mono (fun _ e => e.1)) ?_
              refine j_callV (pc := 101) hK hQ (c_XopenT hX.st' hn hE.2.1 (by omega)) cal_X0_openOne xq_isC q549 dX0_one_101 rfl rfl (by omega) (by omega) (by omega) (nle rfl) (kr_t (kr_v ?_)) (kx_t nt_v fun x => jt_leave hK hQ (by decide) (by omega) (by omega) (fun h w => by cases (bad_p0 w.2.1 e1)))
              refine J.pre fun hgE => ?_
              refine j_aload_n (pc := 104) hK dX0_one_104 rfl ?_
              refine j_callV (pc := 105) hK hQ (hb hgE) cal_X0_either xq_isC q537 dX0_one_105 rfl rfl (by omega) (by omega) (by omega) (nle rfl) (kr_t (kr_r fun r105 => ?_)) (kx_t nt_r fun x => jt_leave hK hQ (by decide) (by omega) (by omega) (fun h w => PZ.thr rfl (Or.inl rfl) w.1 w.2.2))
              refine pz_open fun c' b S2 hc' hgu hS2 hX2 hN2 => ?_
              cases hc'
              refine j_ast2 (pc := 108) hK dX0_one_108 (by decide) rfl ?_
              refine j_aload_n (pc := 109) hK dX0_one_109 rfl ?_
              refine j_bipush (pc := 110) (v := 41) hK dX0_one_110 (by decide) ?_
              refine j_callV (pc := 112) hK hQ (c_XisSign (fun _ e => e.2.2) _) cal_X0_isSign xq_isC q605 dX0_one_112 rfl rfl (by omega) (by omega) (by omega) (nle rfl) (kr_i fun r112 => ?_) kx_i
              refine J.pre fun e112 => ?_
              subst e112
              refine j_if_ne_b (pc := 115) (tgt := 123) hK dX0_one_115 (by decide) (fun c115 => absurd c115 h41) (fun c115 => ?_)
              refine xz_open fun xx r e => ?_
              refine j_aload_n (pc := 118) hK dX0_one_118 rfl ?_
              refine xc_getR (pc := 119) (k := 10) hK (fun _ w => w.1) (by decide) rfl q760 rfl dX0_one_119 ?_
              refine j_athrow (pc := 122) hK dX0_one_122 ?_
              exact jt_leave hK hQ (by decide) (by omega) (by omega) (fun h w => PZ.thr rfl (Or.inl rfl) rfl (xz_close w r e.2.1))
      · rw [if_neg (fun z => h4 z.1)] at hx
        cases hx
        refine j_aload_n (pc := 48) hK dX0_one_48 rfl ?_
        refine j_bipush (pc := 49) (v := 45) hK dX0_one_49 (by decide) ?_
        refine j_callV (pc := 51) hK hQ (c_XisSign (fun _ e => e.2.2) _) cal_X0_isSign xq_isC q605 dX0_one_51 rfl rfl (by omega) (by omega) (by omega) (nle rfl) (kr_i fun r51 => ?_) kx_i
        refine J.pre fun e51 => ?_
        subst e51
        refine j_if_eq_b (pc := 54) (tgt := 86) hK dX0_one_54 (by decide) (fun c54 => ?_) (fun c54 => absurd c54 hs)
        refine j_aload_n (pc := 86) hK dX0_one_86 rfl ?_
        refine j_bipush (pc := 87) (v := 40) hK dX0_one_87 (by decide) ?_
        refine j_callV (pc := 89) hK hQ (c_XisSign (fun _ e => e.2.2) _) cal_X0_isSign xq_isC q605 dX0_one_89 rfl rfl (by omega) (by omega) (by omega) (nle rfl) (kr_i fun r89 => ?_) kx_i
        refine J.pre fun e89 => ?_
        subst e89
        refine j_if_ne_b (pc := 92) (tgt := 100) hK dX0_one_92 (by decide) (fun c92 => absurd c92 h4) (fun c92 => ?_)
        refine xz_open fun xx r e => ?_
        refine j_aload_n (pc := 95) hK dX0_one_95 rfl ?_
        refine xc_getR (pc := 96) (k := 10) hK (fun _ w => w.1) (by decide) rfl q760 rfl dX0_one_96 ?_
        refine j_athrow (pc := 99) hK dX0_one_99 ?_
        exact jt_leave hK hQ (by decide) (by omega) (by omega) (fun h w => PZ.thr rfl (Or.inl rfl) rfl (xz_close w r e.2.1))
  refine xz_open fun xx r e => ?_
  have hT := e.2.2
  by_cases h1 : soP t n p = 1
  · rw [if_pos h1] at hx
    cases hx
    have hgt := en_gt hp (by rw [h1]; decide)
    have htk : xx.p 21 = 3 ∧ xx.p 22 = vaP t n p := by
      rcases hT with ⟨a, b⟩ | ⟨a, b, c⟩ | ⟨a, b, c, d⟩ | ⟨a, b, c, d, e⟩ | ⟨a, b, c⟩
      · rw [a] at h1; exact absurd h1 (by decide)
      · exact ⟨b, c⟩
      · rw [a] at h1; exact absurd h1 (by decide)
      · rw [a] at h1; exact absurd h1 (by decide)
      · rw [a] at h1; exact absurd h1 (by decide)
    refine j_aload_n (pc := 0) hK dX0_one_0 rfl ?_
    refine xc_get (pc := 1) (k := 22) (v := vaP t n p) hK (fun _ w => w.1) (by decide) rfl htk.2 q773 rfl dX0_one_1 ?_
    refine j_ist1 (pc := 4) hK dX0_one_4 (by decide) rfl ?_
    refine j_aload_n (pc := 5) hK dX0_one_5 rfl ?_
    refine xc_get (pc := 6) (k := 21) (v := 3) hK (fun _ w => w.1) (by decide) rfl htk.1 q772 rfl dX0_one_6 ?_
    refine j_iconst (pc := 9) (v := 3) hK dX0_one_9 (by decide) ?_
    refine j_icmp_ne (pc := 10) (tgt := 26) hK dX0_one_10 (by decide) (fun c10 => absurd rfl c10) (fun c10 => ?_)
    refine j_aload_n (pc := 13) hK dX0_one_13 rfl ?_
    refine J.mono (P' := XQ Γ L f g T (TB t n (enP t n p) o) (Sb S)) (fun h w => xz_close w r e.1) ?_
    refine j_callV (pc := 14) hK hQ (c_Xnext hX.st' hn hE.2.1) cal_X0_next xq_isC q395 dX0_one_14 rfl rfl (by omega) (by omega) (by omega) (nle rfl) (kr_t (kr_v ?_)) (kx_t nt_v fun x => jt_leave hK hQ (by decide) (by omega) (by omega) (fun h w => PZ.thr rfl (Or.inr w.2.1) w.1 w.2.2))
    refine J.pre fun hgE => ?_
    refine j_new (pc := 17) (ci := 4) (fs := [.int 0]) hK hQ rfl in_X5 tyX5_ok q582 q583 q84 (by decide) (by omega) (by omega) dX0_one_17 (fun a17 => ?_)
    refine nbg_no fun hno => ?_
    refine j_dup (pc := 20) hK dX0_one_20 rfl ?_
    refine j_iload_n (pc := 21) hK dX0_one_21 rfl ?_
    refine j_callI (pc := 22) hK hQ (c_I5 (P := XQ Γ L f g T (TK t n (enP t n p) o) (Sb S))) cal_X5_init q584 dX0_one_22 rfl rfl (by omega) (by omega) (by omega) (nle rfl) (kr_v ?_) kx_v
    exact j_aret (pc := 25) hK hQ (Or.inl ⟨_, rfl⟩) (Or.inr ⟨_, rfl⟩) (by omega) (by omega) dX0_one_25 (fun h w => PZ.ret rfl hgE (Sb.new _ (Sb.refl _) hno) (hX.puS _ (by decide)) (nt_num (by obtain ⟨v, hv, ev⟩ := va_nn hp h1; rw [ev]; exact nI_pos' (by omega))) (xq_in w))
  · by_cases h2 : 0 < nmP t n p
    · rw [if_neg h1, if_pos h2] at hx
      cases hx
      have hm := (nmP_c (t := t) (n := n) (p := p)).resolve_left (fun z => by rw [z] at h2; exact absurd h2 (by decide))
      have hgt := en_gt hp (by rw [hm.1]; decide)
      have htk : xx.p 21 = 2 ∧ xx.p 22 = nmP t n p - 1 := by
        rcases hT with ⟨a, b⟩ | ⟨a, b, c⟩ | ⟨a, b, c, d⟩ | ⟨a, b, c, d, e⟩ | ⟨a, b, c⟩
        · rw [hm.1] at a; exact absurd a (by decide)
        · exact absurd a h1
        · rw [ky_nm b] at h2; exact absurd h2 (by decide)
        · exact ⟨d, e⟩
        · rw [hm.1] at a; exact absurd a (by decide)
      obtain ⟨k, hk, ek⟩ := nI_of2 (x := nmP t n p) (M := 6) (n := 6) (by decide) (Int32.not_lt.mpr (Int32.le_of_lt h2)) hm.2.2.2
      obtain ⟨j, rfl⟩ : ∃ j, k = j + 1 := ⟨k - 1, by
        have : k ≠ 0 := fun z => by rw [ek, z] at h2; exact absurd h2 (by decide)
        omega⟩
      have ej : nmP t n p - 1 = nI j := by rw [ek, nI_pred]
      have ecode : -nmP t n p = -(nmP t n p - 1) - 1 := by
        rw [ek]
        have : ∀ j, j < 6 → -nI (j + 1) = -(nI (j + 1) - 1) - 1 := by decide
        exact this j (by omega)
      refine j_aload_n (pc := 0) hK dX0_one_0 rfl ?_
      refine xc_get (pc := 1) (k := 22) (v := nmP t n p - 1) hK (fun _ w => w.1) (by decide) rfl htk.2 q773 rfl dX0_one_1 ?_
      refine j_ist1 (pc := 4) hK dX0_one_4 (by decide) rfl ?_
      refine j_aload_n (pc := 5) hK dX0_one_5 rfl ?_
      refine xc_get (pc := 6) (k := 21) (v := 2) hK (fun _ w => w.1) (by decide) rfl htk.1 q772 rfl dX0_one_6 ?_
      refine j_iconst (pc := 9) (v := 3) hK dX0_one_9 (by decide) ?_
      refine j_icmp_ne (pc := 10) (tgt := 26) hK dX0_one_10 (by decide) (fun c10 => ?_) (fun c10 => absurd c10 (by decide))
      refine j_aload_n (pc := 26) hK dX0_one_26 rfl ?_
      refine xc_get (pc := 27) (k := 21) (v := 2) hK (fun _ w => w.1) (by decide) rfl htk.1 q772 rfl dX0_one_27 ?_
      refine j_iconst (pc := 30) (v := 2) hK dX0_one_30 (by decide) ?_
      refine j_icmp_ne (pc := 31) (tgt := 48) hK dX0_one_31 (by decide) (fun c31 => absurd rfl c31) (fun c31 => ?_)
      refine j_aload_n (pc := 34) hK dX0_one_34 rfl ?_
      refine J.mono (P' := XQ Γ L f g T (TB t n (enP t n p) o) (Sb S)) (fun h w => xz_close w r e.1) ?_
      refine j_callV (pc := 35) hK hQ (c_Xnext hX.st' hn hE.2.1) cal_X0_next xq_isC q395 dX0_one_35 rfl rfl (by omega) (by omega) (by omega) (nle rfl) (kr_t (kr_v ?_)) (kx_t nt_v fun x => jt_leave hK hQ (by decide) (by omega) (by omega) (fun h w => PZ.thr rfl (Or.inr w.2.1) w.1 w.2.2))
      refine J.pre fun hgE => ?_
      refine j_new (pc := 38) (ci := 5) (fs := [.int 0, .null]) hK hQ rfl in_X6 tyX6_ok q592 q593 q85 (by decide) (by omega) (by omega) dX0_one_38 (fun a38 => ?_)
      refine nbg_no fun hno => ?_
      refine j_dup (pc := 41) hK dX0_one_41 rfl ?_
      refine j_aload_n (pc := 42) hK dX0_one_42 rfl ?_
      refine j_iload_n (pc := 43) hK dX0_one_43 rfl ?_
      refine j_callI (pc := 44) hK hQ (c_I6 (P := XQ Γ L f g T (TK t n (enP t n p) o) (Sb S))) cal_X6_init q594 dX0_one_44 rfl rfl (by omega) (by omega) (by omega) (nle rfl) (kr_v ?_) kx_v
      exact j_aret (pc := 47) hK hQ (Or.inl ⟨_, rfl⟩) (Or.inr ⟨_, rfl⟩) (by omega) (by omega) dX0_one_47 (fun h w => PZ.ret (congrArg (fun z => (enP t n p, some [z])) ecode) hgE (Sb.new _ (Sb.refl _) hno) (hX.puS _ (by decide)) (nt_name (by rw [ej]; exact nI_pos' (by omega)) (by rw [ej, show (5 : Int32) = nI 5 by decide]; exact nI_le (by omega) (by decide))) (xq_in w))
    · have htk : ¬ xx.p 21 = 3 ∧ ¬ xx.p 21 = 2 := by
        rcases hT with ⟨a, b⟩ | ⟨a, b, c⟩ | ⟨a, b, c, d⟩ | ⟨a, b, c, d, e⟩ | ⟨a, b, c⟩
        · rw [b]; decide
        · exact absurd a h1
        · rw [c]; decide
        · exact absurd c h2
        · rw [b]; decide
      refine j_aload_n (pc := 0) hK dX0_one_0 rfl ?_
      refine xc_get (pc := 1) (k := 22) hK (fun _ w => w.1) (by decide) rfl rfl q773 rfl dX0_one_1 ?_
      refine j_ist1 (pc := 4) hK dX0_one_4 (by decide) rfl ?_
      refine j_aload_n (pc := 5) hK dX0_one_5 rfl ?_
      refine xc_get (pc := 6) (k := 21) hK (fun _ w => w.1) (by decide) rfl rfl q772 rfl dX0_one_6 ?_
      refine j_iconst (pc := 9) (v := 3) hK dX0_one_9 (by decide) ?_
      refine j_icmp_ne (pc := 10) (tgt := 26) hK dX0_one_10 (by decide) (fun c10 => ?_) (fun c10 => absurd c10 htk.1)
      refine j_aload_n (pc := 26) hK dX0_one_26 rfl ?_
      refine xc_get (pc := 27) (k := 21) hK (fun _ w => w.1) (by decide) rfl rfl q772 rfl dX0_one_27 ?_
      refine j_iconst (pc := 30) (v := 2) hK dX0_one_30 (by decide) ?_
      refine j_icmp_ne (pc := 31) (tgt := 48) hK dX0_one_31 (by decide) (fun c31 => ?_) (fun c31 => absurd c31 htk.2)
      exact J.mono (P' := XQ Γ L f g T (TK t n p o) (Sb S)) (fun h w => xz_close w r e) (rest _ h1 h2)
/-- the class reads as 'pr' says -/
theorem c_Xall (hn : n ≤ 160) : ∀ m j, j ≤ m → XCa Γ A L f g T t n j ∧ XCb Γ A L f g T t n j ∧ XCn Γ A L f g T t n j ∧ XCs Γ A L f g T t n j ∧ XCt Γ A L f g T t n j ∧ XCo Γ A L f g T t n j := by
  intro m
  induction m with
  | zero =>
    intro j hj
    have : j = 0 := by omega
    subst this
    exact ⟨(fun p o S x _ _ _ _ h => by cases h), (fun p o S x _ _ _ _ h => by cases h), (fun p o S x _ _ _ _ h => by cases h), (fun p o S x _ _ _ _ h => by cases h), (fun p o S x _ _ _ _ h => by cases h), (fun p o S x _ _ _ _ h => by cases h)⟩
  | succ m ih =>
    intro j hj
    by_cases e : j ≤ m
    · exact ih j e
    · have : j = m + 1 := by omega
      subst this
      have z := ih m (Nat.le_refl _)
      exact ⟨s_Xeither hn (fun j hj => (ih j hj).2.1), s_Xboth hn (fun j hj => (ih j hj).2.2.1), s_Xnot hn z.2.2.1 z.2.2.2.1, s_Xplus hn (fun j hj => (ih j hj).2.2.2.2.1), s_Xtimes hn (fun j hj => (ih j hj).2.2.2.2.2), s_Xone hn z.2.2.2.2.2 z.1⟩
end X77
