/-! the class: orders, fetches -/
set_option maxRecDepth 100000
section X64
variable {Γ : Gam} {A : Nat → Prop} {L : Nat → Nat} {f : Nat → Int32} {g : Nat → Int32 → Int32} {T : TX} {P : PH → Prop}
theorem XR.cpH {x : XD} (r : XR f g x) : XR f g (xcpA x 26 25) := by
  obtain ⟨r1, r2, r3, r4, r5, r6, r7⟩ := r
  have hq : ∀ m, m ≠ 26 → (xcpA x 26 25).q m = x.q m := fun m h1 => xcpA_q h1
  refine ⟨r1, fun j hj => by rw [hq 7 (by decide)]; exact r2 j hj, r3, fun j hj b h => ?_, fun j h0 h1 => by rw [hq 16 (by decide)]; exact r5 j h0 h1, fun h => ?_, fun s hs => ?_⟩
  · rw [hq j (by rintro rfl; cases hj)]
    exact r4 j hj b h
  · have q := r6 h
    unfold XRi at q ⊢
    rw [hq 33 (by decide), hq 32 (by decide)]
    refine ⟨q.1, q.2.1, q.2.2.1, q.2.2.2.1, q.2.2.2.2.1, q.2.2.2.2.2.1, q.2.2.2.2.2.2.1, q.2.2.2.2.2.2.2.1, q.2.2.2.2.2.2.2.2.1, q.2.2.2.2.2.2.2.2.2.1, q.2.2.2.2.2.2.2.2.2.2.1, fun j h1 h2 b h3 h4 => ?_⟩
    rw [hq j (by omega)]
    exact q.2.2.2.2.2.2.2.2.2.2.2 j h1 h2 b h3 h4
  · have q := r7 s hs
    unfold XRs at q ⊢
    rw [hq 38 (by decide), hq 39 (by decide), hq (53 + s) (by omega)]
    exact q
theorem OFs.push {N i : Nat} {acc : Acc} {pre : List Nat} (hl : pre.length < 7) (x : XD) (e : OFs N acc pre x) : OFs N acc (pre ++ [i]) (xpA x 25 (nI pre.length) (nI i)) := by
  refine ⟨e.1, e.2.1, fun j v h => ?_, fun j v h => ?_⟩
  · rw [xpA_q (show (26 : Nat) ≠ 25 by decide)]
    exact e.2.2.1 j v h
  · show ug x.q 25 (nI pre.length) (nI i) 25 (nI j) = nI v
    have hj := (List.getElem?_eq_some_iff.mp h).1
    simp at hj
    by_cases ej : j = pre.length
    · subst ej
      rw [ug_s]
      simp at h
      rw [h]
    · rw [ug_i _ _ _ (fun z => ej ((nI_eq (by omega) (by omega)).mp z))]
      exact e.2.2.2 j v (by rwa [List.getElem?_append_left (by omega)] at h)
theorem OFs.pop {N i : Nat} {acc : Acc} {pre : List Nat} (x : XD) (e : OFs N acc (pre ++ [i]) x) : OFs N acc pre x := ⟨e.1, e.2.1, e.2.2.1, fun j v h => e.2.2.2 j v (by rw [List.getElem?_append_left ((List.getElem?_eq_some_iff.mp h).1)]; exact h)⟩
theorem c_Xorders {nb N : Nat} (hn : nb ≤ 7) (e0 : f 0 = nI nb) (hV : XV f g T) (hN7 : N ≤ 7) : ∀ (n s : Nat) (pre : List Nat) (acc : Acc), pc7 s = n → s < 128 → pre.length + n = N → (∀ v ∈ pre, v < nb) → gdX nb acc → Ct Γ A yX0_orders wX0_orders (5 + n) 0 0 [.ref (L 35), .int (nI pre.length), .int (nI s)] (XI Γ L f g T (OFs N acc pre)) (RV (XI Γ L f g T (OFs N (enI f g nb n s pre acc) pre))) := by
  intro n
  induction n with
  | zero =>
    intro s pre acc hs hs7 hl hp hg
    have := (pc_0 s hs7).mp hs
    subst this
    obtain ⟨t, ht, et⟩ := tm_all hn e0 hV (pre := pre) (by omega) hp
    have hlf : enI f g nb 0 0 pre acc = (if acc.1 = -1 ∨ nI t < acc.1 then (nI t, pre) else acc) := by
      show leafI (tmI f g 0 0 0 pre) pre acc = _
      rw [et]
      exact leaf_x (nb := nb) ht hg
    refine Ct.of (cc := cX0_orders) (nL := 4) (ret := none) (ls := [some (.ref (L 35)), some (.int (nI pre.length)), some (.int (nI 0)), none]) rfl rfl rfl (nle rfl) ?_
    intro K hK hQ
    refine j_iload_n (pc := 0) hK dX0_orders_0 rfl ?_
    refine j_if_ne (pc := 1) (tgt := 46) hK dX0_orders_1 (by decide) (fun c1 => absurd (by decide) c1) (fun c1 => ?_)
    refine j_aload_n (pc := 4) hK dX0_orders_4 rfl ?_
    refine j_callV (pc := 5) hK hQ (c_XminutesOf hn e0 (N := N) (by omega) hN7 hp) cal_X0_minutesOf (xi_isC (fun _ w => w)) q932 dX0_orders_5 rfl rfl (nle rfl) (nle rfl) (nle rfl) (nle rfl) (kr_i fun r5 => ?_) kx_i
    refine J.pre fun e5 => ?_
    rw [tmX_all hV.n11, et] at e5
    subst e5
    refine j_ist3 (pc := 8) hK dX0_orders_8 (by decide) rfl ?_
    refine j_aload_n (pc := 9) hK dX0_orders_9 rfl ?_
    refine xi_get (pc := 10) (k := 28) (v := acc.1) hK (fun _ w => w) (by decide) rfl (fun _ _ e => e.1) q779 rfl dX0_orders_10 ?_
    refine j_iconst (pc := 13) (v := (-1)) hK dX0_orders_13 (by decide) ?_
    refine j_icmp_eq (pc := 14) (tgt := 25) hK dX0_orders_14 (by decide) (fun c14 => ?_) (fun c14 => ?_)
    · have hc : acc.1 = -1 ∨ nI t < acc.1 := by first | exact Or.inl c14 | exact Or.inr (Int32.not_le.mp c22)
      rw [if_pos hc] at hlf
      refine j_aload_n (pc := 25) hK dX0_orders_25 rfl ?_
      refine j_iload_n (pc := 26) hK dX0_orders_26 rfl ?_
      refine xi_putH (pc := 27) (k := 28) (φ' := (fun x => x.p 28 = nI t ∧ x.p 27 = nI N ∧ ∀ j v, pre[j]? = some v → x.q 25 (nI j) = nI v)) hK rfl (by decide) rfl (fun x e => ⟨rfl, e.2.1, e.2.2.2⟩) q779 rfl rfl rfl rfl dX0_orders_27 ?_
      refine j_aload_n (pc := 30) hK dX0_orders_30 rfl ?_
      refine xi_getR (pc := 31) (k := 25) hK (fun _ w => w) (by decide) rfl q776 rfl dX0_orders_31 ?_
      refine j_iconst (pc := 34) (v := 0) hK dX0_orders_34 (by decide) ?_
      refine j_aload_n (pc := 35) hK dX0_orders_35 rfl ?_
      refine xi_getR (pc := 36) (k := 26) hK (fun _ w => w) (by decide) rfl q777 rfl dX0_orders_36 ?_
      refine j_iconst (pc := 39) (v := 0) hK dX0_orders_39 (by decide) ?_
      refine j_bipush (pc := 40) (v := 7) hK dX0_orders_40 (by decide) ?_
      refine xi_copy (pc := 42) (k := 26) (k0 := 25) (f' := f) (g' := g) (φ' := OFs N (nI t, pre) pre) hK hQ rfl rfl (by decide) (by decide) (by decide) rfl (fun x r e => ⟨r.cpH, e.1, e.2.1, fun j v h => by rw [xcpA_s]; exact e.2.2 j v h, fun j v h => by rw [xcpA_q (show (25 : Nat) ≠ 26 by decide)]; exact e.2.2 j v h⟩) rfl q936 dX0_orders_42 (by decide) (by decide) ?_
      exact j_vret (pc := 45) hK hQ (nle rfl) (nle rfl) dX0_orders_45 (fun h w => ⟨rfl, (by first | (rw [hlf]; exact w) | (rw [if_neg (fun z => z.elim c14 (fun y => absurd c22 (Int32.not_le.mpr y)))] at hlf; rw [hlf]; exact w))⟩)
    · refine j_iload_n (pc := 17) hK dX0_orders_17 rfl ?_
      refine j_aload_n (pc := 18) hK dX0_orders_18 rfl ?_
      refine xi_get (pc := 19) (k := 28) (v := acc.1) hK (fun _ w => w) (by decide) rfl (fun _ _ e => e.1) q779 rfl dX0_orders_19 ?_
      refine j_icmp_ge (pc := 22) (tgt := 45) hK dX0_orders_22 (by decide) (fun c22 => ?_) (fun c22 => ?_)
      · exact j_vret (pc := 45) hK hQ (nle rfl) (nle rfl) dX0_orders_45 (fun h w => ⟨rfl, (by first | (rw [hlf]; exact w) | (rw [if_neg (fun z => z.elim c14 (fun y => absurd c22 (Int32.not_le.mpr y)))] at hlf; rw [hlf]; exact w))⟩)
      · have hc : acc.1 = -1 ∨ nI t < acc.1 := by first | exact Or.inl c14 | exact Or.inr (Int32.not_le.mp c22)
        rw [if_pos hc] at hlf
        refine j_aload_n (pc := 25) hK dX0_orders_25 rfl ?_
        refine j_iload_n (pc := 26) hK dX0_orders_26 rfl ?_
        refine xi_putH (pc := 27) (k := 28) (φ' := (fun x => x.p 28 = nI t ∧ x.p 27 = nI N ∧ ∀ j v, pre[j]? = some v → x.q 25 (nI j) = nI v)) hK rfl (by decide) rfl (fun x e => ⟨rfl, e.2.1, e.2.2.2⟩) q779 rfl rfl rfl rfl dX0_orders_27 ?_
        refine j_aload_n (pc := 30) hK dX0_orders_30 rfl ?_
        refine xi_getR (pc := 31) (k := 25) hK (fun _ w => w) (by decide) rfl q776 rfl dX0_orders_31 ?_
        refine j_iconst (pc := 34) (v := 0) hK dX0_orders_34 (by decide) ?_
        refine j_aload_n (pc := 35) hK dX0_orders_35 rfl ?_
        refine xi_getR (pc := 36) (k := 26) hK (fun _ w => w) (by decide) rfl q777 rfl dX0_orders_36 ?_
        refine j_iconst (pc := 39) (v := 0) hK dX0_orders_39 (by decide) ?_
        refine j_bipush (pc := 40) (v := 7) hK dX0_orders_40 (by decide) ?_
        refine xi_copy (pc := 42) (k := 26) (k0 := 25) (f' := f) (g' := g) (φ' := OFs N (nI t, pre) pre) hK hQ rfl rfl (by decide) (by decide) (by decide) rfl (fun x r e => ⟨r.cpH, e.1, e.2.1, fun j v h => by rw [xcpA_s]; exact e.2.2 j v h, fun j v h => by rw [xcpA_q (show (25 : Nat) ≠ 26 by decide)]; exact e.2.2 j v h⟩) rfl q936 dX0_orders_42 (by decide) (by decide) ?_
        exact j_vret (pc := 45) hK hQ (nle rfl) (nle rfl) dX0_orders_45 (fun h w => ⟨rfl, (by first | (rw [hlf]; exact w) | (rw [if_neg (fun z => z.elim c14 (fun y => absurd c22 (Int32.not_le.mpr y)))] at hlf; rw [hlf]; exact w))⟩)
  | succ n ih =>
    intro s pre acc hs hs7 hl hp hg
    have hs0 : ¬ s = 0 := by
      intro z
      have e : pc7 0 = 0 := by decide
      rw [z, e] at hs
      cases hs
    have hso : vp_in (nI pre.length) 7 := vp_in_nI (by omega) (by decide)
    have hen : enI f g nb (n + 1) s pre acc = (List.range nb).foldl (fun acc i => if s / 2 ^ i % 2 = 1 then enI f g nb n (s - 2 ^ i) (pre ++ [i]) acc else acc) acc := rfl
    have hgx : ∀ i, i ≤ nb → gdX nb ((List.range i).foldl (fun acc i => if s / 2 ^ i % 2 = 1 then enI f g nb n (s - 2 ^ i) (pre ++ [i]) acc else acc) acc) := by
      intro i
      induction i with
      | zero => intro _; exact hg
      | succ i ihi =>
        intro hi
        rw [rng_s]
        split
        · refine en_gx hn e0 hV _ _ _ _ (by simp; omega) (fun v hv => ?_) (ihi (by omega))
          rcases List.mem_append.mp hv with w | w
          · exact hp v w
          · rw [List.mem_singleton.mp w]; omega
        · exact ihi (by omega)
    refine Ct.of (cc := cX0_orders) (nL := 4) (ret := none) (ls := [some (.ref (L 35)), some (.int (nI pre.length)), some (.int (nI s)), none]) rfl rfl rfl (nle rfl) ?_
    intro K hK hQ
    have loop : ∀ (r i : Nat), i + r = nb → J Γ A K 48 [some (.ref (L 35)), some (.int (nI pre.length)), some (.int (nI s)), some (.int (nI i))] [] (XI Γ L f g T (OFs N ((List.range i).foldl (fun acc i => if s / 2 ^ i % 2 = 1 then enI f g nb n (s - 2 ^ i) (pre ++ [i]) acc else acc) acc) pre)) 0 0 := by
      intro r
      induction r with
      | zero =>
        intro i hi
        have : i = nb := by omega
        subst this
        refine j_iload_n (pc := 48) hK dX0_orders_48 rfl ?_
        refine j_aload_n (pc := 49) hK dX0_orders_49 rfl ?_
        refine xi_getF (pc := 50) (k := 6) (n := 0) hK (fun _ w => w) rfl rfl (by decide) rfl q754 rfl dX0_orders_50 ?_
        refine j_icmp_ge (pc := 53) (tgt := 92) hK dX0_orders_53 (by decide) (fun c53 => ?_) (fun c53 => absurd (by rw [e0]; exact Int32.le_refl _) c53)
        exact j_vret (pc := 92) hK hQ (nle rfl) (nle rfl) dX0_orders_92 (fun h w => ⟨rfl, w⟩)
      | succ r ihr =>
        intro i hi
        have ih' := ihr (i + 1) (by omega)
        rw [rng_s] at ih'
        have ebit := bit_s s hs7 i (by omega)
        have hgi := hgx i (by omega)
        generalize (List.range i).foldl (fun acc i => if s / 2 ^ i % 2 = 1 then enI f g nb n (s - 2 ^ i) (pre ++ [i]) acc else acc) acc = acci at ih' hgi ⊢
        refine j_iload_n (pc := 48) hK dX0_orders_48 rfl ?_
        refine j_aload_n (pc := 49) hK dX0_orders_49 rfl ?_
        refine xi_getF (pc := 50) (k := 6) (n := 0) hK (fun _ w => w) rfl rfl (by decide) rfl q754 rfl dX0_orders_50 ?_
        refine j_icmp_ge (pc := 53) (tgt := 92) hK dX0_orders_53 (by decide) (fun c53 => absurd c53 (by rw [e0]; exact nI_ge (by omega) (by omega))) (fun c53 => ?_)
        refine j_iload_n (pc := 56) hK dX0_orders_56 rfl ?_
        refine j_iload_n (pc := 57) hK dX0_orders_57 rfl ?_
        refine j_ishr (pc := 58) hK dX0_orders_58 ?_
        refine j_iconst (pc := 59) (v := 1) hK dX0_orders_59 (by decide) ?_
        refine j_iand (pc := 60) hK dX0_orders_60 ?_
        rw [ebit]
        refine j_iconst (pc := 61) (v := 1) hK dX0_orders_61 (by decide) ?_
        refine j_icmp_ne (pc := 62) (tgt := 86) hK dX0_orders_62 (by decide) (fun c62 => ?_) (fun c62 => ?_)
        · first | (have hb0 : ¬ s / 2 ^ i % 2 = 1 := fun z => c62 (by rw [z]; rfl)) | skip
          try rw [if_neg hb0] at ih'
          refine j_iinc3 (pc := 86) (v := 1) hK dX0_orders_86 (by decide) rfl (by decide) ?_
          refine j_goto (pc := 89) (tgt := 48) hK dX0_orders_89 (by decide) ?_
          rw [nI_1]
          exact ih'
        · have hb1 : s / 2 ^ i % 2 = 1 := (nI_eq (b := 1) (by omega) (by decide)).mp c62
          rw [if_pos hb1] at ih'
          obtain ⟨ec, ep, ele⟩ := clr_s s hs7 i (by omega) hb1
          refine j_aload_n (pc := 65) hK dX0_orders_65 rfl ?_
          refine xi_getR (pc := 66) (k := 25) hK (fun _ w => w) (by decide) rfl q776 rfl dX0_orders_66 ?_
          refine j_iload_n (pc := 69) hK dX0_orders_69 rfl ?_
          refine j_iload_n (pc := 70) hK dX0_orders_70 rfl ?_
          refine xi_ast (pc := 71) (k := 25) (f' := f) (g' := g) (φ' := OFs N acci (pre ++ [i])) hK rfl (by decide) hso (fun x r e => ⟨r.aH (by simp), OFs.push (by omega) x e⟩) rfl dX0_orders_71 ?_
          refine j_aload_n (pc := 72) hK dX0_orders_72 rfl ?_
          refine j_iload_n (pc := 73) hK dX0_orders_73 rfl ?_
          refine j_iconst (pc := 74) (v := 1) hK dX0_orders_74 (by decide) ?_
          refine j_iadd (pc := 75) hK dX0_orders_75 ?_
          rw [nI_1, show nI (pre.length + 1) = nI (pre ++ [i]).length by simp]
          refine j_iload_n (pc := 76) hK dX0_orders_76 rfl ?_
          refine j_iconst (pc := 77) (v := 1) hK dX0_orders_77 (by decide) ?_
          refine j_iload_n (pc := 78) hK dX0_orders_78 rfl ?_
          refine j_ishl (pc := 79) hK dX0_orders_79 ?_
          rw [shl_i i (by omega)]
          refine j_iconst (pc := 80) (v := (-1)) hK dX0_orders_80 (by decide) ?_
          refine j_ixor (pc := 81) hK dX0_orders_81 ?_
          refine j_iand (pc := 82) hK dX0_orders_82 ?_
          rw [ec]
          refine j_callV (pc := 83) hK hQ (ih (s - 2 ^ i) (pre ++ [i]) acci (by omega) (Nat.lt_of_le_of_lt (Nat.sub_le _ _) hs7) (by simp; omega) (fun v hv => (List.mem_append.mp hv).elim (hp v) (fun w => by rw [List.mem_singleton.mp w]; omega)) hgi) cal_X0_orders (xi_isC (fun _ w => w)) q928 dX0_orders_83 rfl rfl (by omega) (nle rfl) (nle rfl) (nle rfl) (kr_v ?_) kx_v
          refine J.mono (P' := XI Γ L f g T (OFs N _ pre)) (fun h w => xi_mono OFs.pop _ w) ?_
          first | (have hb0 : ¬ s / 2 ^ i % 2 = 1 := fun z => c62 (by rw [z]; rfl)) | skip
          try rw [if_neg hb0] at ih'
          refine j_iinc3 (pc := 86) (v := 1) hK dX0_orders_86 (by decide) rfl (by decide) ?_
          refine j_goto (pc := 89) (tgt := 48) hK dX0_orders_89 (by decide) ?_
          rw [nI_1]
          exact ih'
    refine j_iload_n (pc := 0) hK dX0_orders_0 rfl ?_
    refine j_if_ne (pc := 1) (tgt := 46) hK dX0_orders_1 (by decide) (fun c1 => ?_) (fun c1 => absurd c1 (by rw [show (0 : Int32) = nI 0 by decide, nI_eq (by omega) (by decide)]; exact hs0))
    refine j_iconst (pc := 46) (v := 0) hK dX0_orders_46 (by decide) ?_
    refine j_ist3 (pc := 47) hK dX0_orders_47 (by decide) rfl ?_
    exact loop nb 0 (by omega)
theorem fet_gx {nb s : Nat} (hn : nb ≤ 7) (e0 : f 0 = nI nb) (hV : XV f g T) : gdX nb (fetI f g nb s) := en_gx hn e0 hV (pc7 s) s [] (-1, []) (by simp; unfold pc7; omega) (by simp) (Or.inl rfl)
theorem fet_t {nb s : Nat} (hn : nb ≤ 7) (e0 : f 0 = nI nb) (hV : XV f g T) (hs : s < 2 ^ nb) : ∃ t, t ≤ 2800 ∧ (fetI f g nb s).1 = nI t := by
  rcases fet_gx (s := s) hn e0 hV with h | h
  · by_cases h0 : pc7 s = 0
    · obtain ⟨t, ht, et⟩ := tm_all hn e0 hV (pre := []) (by simp) (by simp)
      refine ⟨t, ht, ?_⟩
      unfold fetI
      rw [h0]
      show (leafI (tmI f g 0 0 0 []) [] (-1, [])).1 = _
      rw [et, leaf_x (nb := nb) ht (Or.inl rfl), if_pos (Or.inl rfl)]
    · have := fet_len (f := f) (g := g) hn hs
      rw [h] at this
      exact absurd this.symm h0
  · exact h
theorem c_Xfetches {nb : Nat} (hn : nb ≤ 7) (e0 : f 0 = nI nb) (hV : XV f g T) {s : Nat} (hs : s < 128) : Ct Γ A yX0_fetches wX0_fetches 14 0 0 [.ref (L 35), .int (nI s)] (XI Γ L f g T TT) (RI fun r h => r = (fetI f g nb s).1 ∧ XI Γ L f g T (OFs (pc7 s) (fetI f g nb s) []) h) := by
  have hp7 : pc7 s ≤ 7 := by unfold pc7; omega
  refine Ct.of (cc := cX0_fetches) (nL := 2) (ret := (some .int)) (ls := [some (.ref (L 35)), some (.int (nI s))]) rfl rfl rfl (nle rfl) ?_
  intro K hK hQ
  refine j_aload_n (pc := 0) hK dX0_fetches_0 rfl ?_
  refine j_iload_n (pc := 1) hK dX0_fetches_1 rfl ?_
  refine j_callS (pc := 2) hK hQ (c_bitCount _) cal_J9_bitCount q922 dX0_fetches_2 rfl rfl (nle rfl) (nle rfl) (nle rfl) (nle rfl) (kr_i fun r2 => ?_) kx_i
  refine J.pre fun e2 => ?_
  rw [bc_pc s hs] at e2
  subst e2
  refine xi_putH (pc := 5) (k := 27) (φ' := (fun x => x.p 27 = nI (pc7 s))) hK rfl (by decide) rfl (fun x e => rfl) q778 rfl rfl rfl rfl dX0_fetches_5 ?_
  refine j_aload_n (pc := 8) hK dX0_fetches_8 rfl ?_
  refine j_iconst (pc := 9) (v := (-1)) hK dX0_fetches_9 (by decide) ?_
  refine xi_putH (pc := 10) (k := 28) (φ' := OFs (pc7 s) (-1, []) []) hK rfl (by decide) rfl (fun x e => ⟨rfl, e, fun j v h => by simp at h, fun j v h => by simp at h⟩) q779 rfl rfl rfl rfl dX0_fetches_10 ?_
  refine j_aload_n (pc := 13) hK dX0_fetches_13 rfl ?_
  refine j_iconst (pc := 14) (v := 0) hK dX0_fetches_14 (by decide) ?_
  refine j_iload_n (pc := 15) hK dX0_fetches_15 rfl ?_
  refine j_callV (pc := 16) hK hQ (c_Xorders hn e0 hV hp7 (pc7 s) s [] (-1, []) rfl hs (by simp) (by simp) (Or.inl rfl)) cal_X0_orders (xi_isC (fun _ w => w)) q928 dX0_fetches_16 rfl rfl (by omega) (nle rfl) (nle rfl) (nle rfl) (kr_v ?_) kx_v
  refine j_aload_n (pc := 19) hK dX0_fetches_19 rfl ?_
  refine xi_get (pc := 20) (k := 28) (v := (fetI f g nb s).1) hK (fun _ w => w) (by decide) rfl (fun _ _ e => e.1) q779 rfl dX0_fetches_20 ?_
  exact j_iret (pc := 23) hK hQ (nle rfl) (nle rfl) dX0_fetches_23 (fun h w => ⟨_, rfl, rfl, w⟩)
theorem lakN_bit : ∀ i, i ≤ 7 → ∀ j, j < i → (lakN g i / 2 ^ j % 2 = 1 ↔ g 6 (nI j) = 0) := by
  have b1 : ∀ i, i < 7 → ∀ a, a < 2 ^ i → (a + 2 ^ i) / 2 ^ i % 2 = 1 ∧ a / 2 ^ i % 2 = 0 ∧ ∀ j, j < i → (a + 2 ^ i) / 2 ^ j % 2 = a / 2 ^ j % 2 := by decide +kernel
  intro i
  induction i with
  | zero => intro _ j hj; omega
  | succ i ih =>
    intro h j hj
    obtain ⟨q1, q2, q3⟩ := b1 i (by omega) _ (lakS_N (g := g) i (by omega)).2
    have e : lakN g (i + 1) = if g 6 (nI i) = 0 then lakN g i + 2 ^ i else lakN g i := rfl
    rcases Nat.lt_or_ge j i with z | z
    · rw [e, ← ih (by omega) j z]
      split
      · rw [q3 j z]
      · exact Iff.rfl
    · have : j = i := by omega
      subst this
      rw [e]
      by_cases c : g 6 (nI j) = 0
      · rw [if_pos c]
        exact ⟨fun _ => c, fun _ => q1⟩
      · rw [if_neg c, q2]
        exact ⟨fun z => (by cases z), fun z => absurd z c⟩
theorem sub_bits : ∀ s, s < 128 → ∀ l, l < 128 → (s &&& (127 ^^^ l) = 0 ↔ ∀ j, j < 7 → s / 2 ^ j % 2 = 1 → l / 2 ^ j % 2 = 1) := by decide +kernel
theorem lk_x {nb s : Nat} (hn : nb ≤ 7) (hs : s < 2 ^ nb) : (nI s &&& (lakS g nb ^^^ (-1)) = 0) ↔ lakeS g s nb := by
  obtain ⟨e, l⟩ := lakS_N (g := g) nb hn
  have h128 := p_le hn
  rw [e, and_not s (by omega) _ (by omega), show (0 : Int32) = nI 0 by decide, nI_eq (Nat.lt_of_le_of_lt Nat.and_le_left (by omega)) (by decide), sub_bits s (by omega) _ (by omega)]
  constructor
  · intro h j hj hb
    exact (lakN_bit nb hn j hj).mp (h j (by omega) hb)
  · intro h j hj hb
    rcases Nat.lt_or_ge j nb with z | z
    · exact (lakN_bit nb hn j z).mpr (h j z hb)
    · have : s / 2 ^ j = 0 := Nat.div_eq_of_lt (Nat.lt_of_lt_of_le hs (Nat.pow_le_pow_right (by decide) z))
      rw [this] at hb
      cases hb
theorem c_XisFetched {x : Int32} {nb : Nat} (hn : nb ≤ 7) (e0 : f 0 = nI nb) : Ct Γ A yX0_isFetched wX0_isFetched 3 0 0 [.ref (L 35), .int x] (XI Γ L f g T TT) (RI fun r h => (r = 0 ∨ r = 1) ∧ (r = 1 ↔ LK g nb x) ∧ XI Γ L f g T TT h) := by
  have h128 := pow_128 hn
  have ep : (1 : Int32) <<< (f 0 &&& 31) - 1 = nI (2 ^ nb - 1) := by
    rw [e0, shl_i nb (by omega), show (1 : Int32) = nI 1 by decide, nI_subN h128.2 (by omega)]
  have in1 : (0 ≤ x ∧ x ≤ nI (2 ^ nb - 1)) ↔ ∃ s, x = nI s ∧ s < 2 ^ nb := by
    constructor
    · intro h
      obtain ⟨s, hs, es⟩ := nI_of (Int32.not_lt.mpr h.1)
      rw [es] at h
      have := (nI_leI hs (by omega)).mp h.2
      exact ⟨s, es, by omega⟩
    · intro ⟨s, es, hs⟩
      rw [es]
      exact ⟨Int32.not_lt.mp (nI_pos (by omega)), nI_le (by omega) (by omega)⟩
  refine Ct.of (cc := cX0_isFetched) (nL := 2) (ret := (some .boolean)) (ls := [some (.ref (L 35)), some (.int x)]) rfl rfl rfl (nle rfl) ?_
  intro K hK hQ
  refine j_iload_n (pc := 0) hK dX0_isFetched_0 rfl ?_
  refine j_i2l (pc := 1) hK dX0_isFetched_1 ?_
  refine j_lconst (pc := 2) (v := 0) hK dX0_isFetched_2 (by decide) ?_
  refine j_iconst (pc := 3) (v := 1) hK dX0_isFetched_3 (by decide) ?_
  refine j_aload_n (pc := 4) hK dX0_isFetched_4 rfl ?_
  refine xi_getF (pc := 5) (k := 6) (n := 0) hK (fun _ w => w) rfl rfl (by decide) rfl q754 rfl dX0_isFetched_5 ?_
  refine j_ishl (pc := 8) hK dX0_isFetched_8 ?_
  refine j_iconst (pc := 9) (v := 1) hK dX0_isFetched_9 (by decide) ?_
  refine j_isub (pc := 10) hK dX0_isFetched_10 ?_
  rw [ep]
  refine j_i2l (pc := 11) hK dX0_isFetched_11 ?_
  refine j_callS (pc := 12) hK hQ (c_Xin (l := 0) (u := nI (2 ^ nb - 1)) (by decide) rfl) cal_X0_in q106 dX0_isFetched_12 rfl rfl (nle rfl) (nle rfl) (nle rfl) (nle rfl) (kr_i fun r12 => ?_) kx_i
  refine J.pre fun e12 => ?_
  subst e12
  refine j_if_eq_b (pc := 15) (tgt := 33) hK dX0_isFetched_15 (by decide) (fun c15 => ?_) (fun c15 => ?_)
  · have hlk : ¬ LK g nb x := by
      rintro ⟨s, es, hs, hl⟩
      first | exact c15 (in1.mpr ⟨s, es, hs⟩) | exact c26 (by rw [es]; exact (lk_x hn hs).mpr hl)
    refine j_iconst (pc := 33) (v := 0) hK dX0_isFetched_33 (by decide) ?_
    exact j_bret (pc := 34) hK hQ (nle rfl) (nle rfl) dX0_isFetched_34 (fun h w => ⟨by decide, _, rfl, by decide, by first | exact ⟨fun _ => hlk, fun _ => rfl⟩ | exact ⟨fun z => absurd z (by decide), fun z => absurd z hlk⟩, w⟩)
  · refine j_iload_n (pc := 18) hK dX0_isFetched_18 rfl ?_
    refine j_aload_n (pc := 19) hK dX0_isFetched_19 rfl ?_
    refine j_callV (pc := 20) hK hQ (c_XonLake hn e0) cal_X0_onLake (xi_isC (fun _ w => w)) q913 dX0_isFetched_20 rfl rfl (nle rfl) (nle rfl) (nle rfl) (nle rfl) (kr_i fun r20 => ?_) kx_i
    refine J.pre fun e20 => ?_
    subst e20
    refine j_iconst (pc := 23) (v := (-1)) hK dX0_isFetched_23 (by decide) ?_
    refine j_ixor (pc := 24) hK dX0_isFetched_24 ?_
    refine j_iand (pc := 25) hK dX0_isFetched_25 ?_
    refine j_if_ne (pc := 26) (tgt := 33) hK dX0_isFetched_26 (by decide) (fun c26 => ?_) (fun c26 => ?_)
    · have hlk : ¬ LK g nb x := by
        rintro ⟨s, es, hs, hl⟩
        first | exact c15 (in1.mpr ⟨s, es, hs⟩) | exact c26 (by rw [es]; exact (lk_x hn hs).mpr hl)
      refine j_iconst (pc := 33) (v := 0) hK dX0_isFetched_33 (by decide) ?_
      exact j_bret (pc := 34) hK hQ (nle rfl) (nle rfl) dX0_isFetched_34 (fun h w => ⟨by decide, _, rfl, by decide, by first | exact ⟨fun _ => hlk, fun _ => rfl⟩ | exact ⟨fun z => absurd z (by decide), fun z => absurd z hlk⟩, w⟩)
    · have hlk : LK g nb x := by
        obtain ⟨s, es, hs⟩ := in1.mp c15
        exact ⟨s, es, hs, (lk_x hn hs).mp (by rw [← es]; exact c26)⟩
      refine j_iconst (pc := 29) (v := 1) hK dX0_isFetched_29 (by decide) ?_
      refine j_goto (pc := 30) (tgt := 34) hK dX0_isFetched_30 (by decide) ?_
      exact j_bret (pc := 34) hK hQ (nle rfl) (nle rfl) dX0_isFetched_34 (fun h w => ⟨by decide, _, rfl, by decide, by first | exact ⟨fun _ => hlk, fun _ => rfl⟩ | exact ⟨fun z => absurd z (by decide), fun z => absurd z hlk⟩, w⟩)
theorem c_Xfetch {x what : Int32} {nb : Nat} (hn : nb ≤ 7) (e0 : f 0 = nI nb) (hV : XV f g T) : Ct Γ A yX0_fetch wX0_fetch 15 0 0 [.ref (L 35), .int x, .int what] (XI Γ L f g T TT) (RI fun r h => r = oFetch f g nb x what ∧ XI Γ L f g T TT h) := by
  refine Ct.of (cc := cX0_fetch) (nL := 4) (ret := (some .int)) (ls := [some (.ref (L 35)), some (.int x), some (.int what), none]) rfl rfl rfl (nle rfl) ?_
  intro K hK hQ
  refine j_aload_n (pc := 0) hK dX0_fetch_0 rfl ?_
  refine j_iload_n (pc := 1) hK dX0_fetch_1 rfl ?_
  refine j_callV (pc := 2) hK hQ (c_XisFetched hn e0) cal_X0_isFetched (xi_isC (fun _ w => w)) q909 dX0_fetch_2 rfl rfl (nle rfl) (nle rfl) (nle rfl) (nle rfl) (kr_i fun r2 => ?_) kx_i
  refine J.pre fun e2a => ?_
  refine J.pre fun e2 => ?_
  refine j_if_eq (pc := 5) (tgt := 20) hK dX0_fetch_5 (by decide) (fun c5 => ?_) (fun c5 => ?_)
  · have hz : oFetch f g nb x what = -2 := by
      unfold oFetch
      first
        | exact iteP_t (fun z => by have := e2.mpr z; rw [c5] at this; exact absurd this (by decide))
        | (rw [if_pos c17]; unfold iteP; split <;> rfl)
    refine j_bipush (pc := 20) (v := (-2)) hK dX0_fetch_20 (by decide) ?_
    exact j_iret (pc := 22) hK hQ (nle rfl) (nle rfl) dX0_fetch_22 (fun h w => ⟨_, rfl, hz.symm, w⟩)
  · refine j_iload_n (pc := 8) hK dX0_fetch_8 rfl ?_
    refine j_i2l (pc := 9) hK dX0_fetch_9 ?_
    refine j_lconst (pc := 10) (v := 0) hK dX0_fetch_10 (by decide) ?_
    refine j_ldc2 (pc := 11) hK q917 dX0_fetch_11 ?_
    refine j_callS (pc := 14) hK hQ (c_Xin (l := 0) (u := 7) (by decide) (by decide)) cal_X0_in q106 dX0_fetch_14 rfl rfl (nle rfl) (nle rfl) (nle rfl) (nle rfl) (kr_i fun r14 => ?_) kx_i
    refine J.pre fun e14 => ?_
    subst e14
    refine j_if_ne_b (pc := 17) (tgt := 23) hK dX0_fetch_17 (by decide) (fun c17 => ?_) (fun c17 => ?_)
    · have hr1 : r2 = 1 := by rcases e2a with q | q; exact absurd q c5; exact q
      obtain ⟨s, es, hs, hlk⟩ := e2.mp hr1
      have h128 := pow_128 hn
      have hp7 : pc7 s ≤ 7 := by unfold pc7; omega
      have ecl : x.toNatClampNeg = s := by rw [es]; exact nI_clamp (by omega)
      have hof : oFetch f g nb x what = if what = 0 then (fetI f g nb s).1 else if nI (pc7 s) < what then -1 else nI ((fetI f g nb s).2.getD (what.toNatClampNeg - 1) 0) := by
        unfold oFetch
        rw [iteP_f (fun z => z ⟨s, es, hs, hlk⟩), if_neg (fun z => z c17), ecl]
      refine j_aload_n (pc := 23) hK dX0_fetch_23 rfl ?_
      refine j_iload_n (pc := 24) hK dX0_fetch_24 rfl ?_
      rw [show (Value.int x) = .int (nI s) by rw [es]]
      refine j_callV (pc := 25) hK hQ (c_Xfetches hn e0 hV (show s < 128 by omega)) cal_X0_fetches (xi_isC (fun _ w => w)) q918 dX0_fetch_25 rfl rfl (nle rfl) (nle rfl) (nle rfl) (nle rfl) (kr_i fun r25 => ?_) kx_i
      refine J.pre fun e25 => ?_
      subst e25
      refine j_ist3 (pc := 28) hK dX0_fetch_28 (by decide) rfl ?_
      refine j_iload_n (pc := 29) hK dX0_fetch_29 rfl ?_
      refine j_if_ne (pc := 30) (tgt := 37) hK dX0_fetch_30 (by decide) (fun c30 => ?_) (fun c30 => ?_)
      · refine j_iload_n (pc := 37) hK dX0_fetch_37 rfl ?_
        refine j_aload_n (pc := 38) hK dX0_fetch_38 rfl ?_
        refine xi_get (pc := 39) (k := 27) (v := nI (pc7 s)) hK (fun _ w => w) (by decide) rfl (fun _ _ e => e.2.1) q778 rfl dX0_fetch_39 ?_
        refine j_icmp_gt (pc := 42) (tgt := 56) hK dX0_fetch_42 (by decide) (fun c42 => ?_) (fun c42 => ?_)
        · refine j_iconst (pc := 56) (v := (-1)) hK dX0_fetch_56 (by decide) ?_
          exact j_iret (pc := 57) hK hQ (nle rfl) (nle rfl) dX0_fetch_57 (fun h w => ⟨_, rfl, (by first | exact (hof.trans (if_pos c30)).symm | exact (hof.trans ((if_neg c30).trans (if_pos c42))).symm | (rw [hof, if_neg c30, if_neg c42, ew, nI_clamp (by omega)]; rfl)), xi_mono (fun _ _ => trivial) _ w⟩)
        · have hw : ∃ w : Nat, w < pc7 s ∧ what = nI (w + 1) := by
            obtain ⟨w0, hw0, ew⟩ := nI_of2 (x := what) (M := 7) (n := 7) (by decide) (Int32.not_lt.mpr c17.1) c17.2
            rw [ew] at c30 c42
            have h1 := Nat.le_of_not_lt (fun z => c42 (nI_lt z (by omega)))
            rcases Nat.eq_zero_or_pos w0 with z | z
            · subst z; exact absurd (by decide) c30
            · exact ⟨w0 - 1, by omega, by rw [show w0 - 1 + 1 = w0 by omega]; exact ew⟩
          obtain ⟨w0, hw0, ew⟩ := hw
          have hlen := fet_len (f := f) (g := g) hn hs
          have hget : (fetI f g nb s).2[w0]? = some ((fetI f g nb s).2.getD w0 0) := by
            rw [List.getD_eq_getElem?_getD]
            rw [List.getElem?_eq_getElem (by omega)]
            rfl
          refine j_aload_n (pc := 45) hK dX0_fetch_45 rfl ?_
          refine xi_getR (pc := 46) (k := 26) hK (fun _ w => w) (by decide) rfl q777 rfl dX0_fetch_46 ?_
          refine j_iload_n (pc := 49) hK dX0_fetch_49 rfl ?_
          refine j_iconst (pc := 50) (v := 1) hK dX0_fetch_50 (by decide) ?_
          refine j_isub (pc := 51) hK dX0_fetch_51 ?_
          rw [ew, nI_pred]
          refine xi_ald (pc := 52) (k := 26) (v := nI ((fetI f g nb s).2.getD w0 0)) hK (fun _ w => w) rfl (by decide) (vp_in_nI (show w0 < 7 by omega) (by decide)) (fun _ _ e => e.2.2.1 w0 _ hget) dX0_fetch_52 ?_
          refine j_goto (pc := 53) (tgt := 57) hK dX0_fetch_53 (by decide) ?_
          exact j_iret (pc := 57) hK hQ (nle rfl) (nle rfl) dX0_fetch_57 (fun h w => ⟨_, rfl, (by first | exact (hof.trans (if_pos c30)).symm | exact (hof.trans ((if_neg c30).trans (if_pos c42))).symm | (rw [hof, if_neg c30, if_neg c42, ew, nI_clamp (by omega)]; rfl)), xi_mono (fun _ _ => trivial) _ w⟩)
      · refine j_iload_n (pc := 33) hK dX0_fetch_33 rfl ?_
        refine j_goto (pc := 34) (tgt := 57) hK dX0_fetch_34 (by decide) ?_
        exact j_iret (pc := 57) hK hQ (nle rfl) (nle rfl) dX0_fetch_57 (fun h w => ⟨_, rfl, (by first | exact (hof.trans (if_pos c30)).symm | exact (hof.trans ((if_neg c30).trans (if_pos c42))).symm | (rw [hof, if_neg c30, if_neg c42, ew, nI_clamp (by omega)]; rfl)), xi_mono (fun _ _ => trivial) _ w⟩)
    · have hz : oFetch f g nb x what = -2 := by
        unfold oFetch
        first
          | exact iteP_t (fun z => by have := e2.mpr z; rw [c5] at this; exact absurd this (by decide))
          | (rw [if_pos c17]; unfold iteP; split <;> rfl)
      refine j_bipush (pc := 20) (v := (-2)) hK dX0_fetch_20 (by decide) ?_
      exact j_iret (pc := 22) hK hQ (nle rfl) (nle rfl) dX0_fetch_22 (fun h w => ⟨_, rfl, hz.symm, w⟩)
end X64
