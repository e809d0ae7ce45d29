/-! the class: what was heard -/
set_option maxRecDepth 100000
section NN
variable {Γ : Gam} {A : Nat → Prop} {K : JC} {cc : ByteArray} {nL : Nat} {own : String} {hh : List (Nat × Nat × Nat × Nat)} {pc : Nat} {ls : List (Option Value)} {st : List Value} {P : PH → Prop} {cs ss : Nat}
theorem j_ifnonnullN (hK : Jok Γ A K cc nL own hh) {off : Int} (hd : decode cc pc = .ok (.ifnonnull off, 3)) (k : J Γ A K (pc + 3) ls st P cs ss) : J Γ A K pc ls (.null :: st) P cs ss := fun h H locs arr hP hR hL => lv_ifnonnullN hK.x hK.b hd (k h H locs arr hP hR hL)
theorem j_ifnullN (hK : Jok Γ A K cc nL own hh) {off : Int} {tgt : Nat} (hd : decode cc pc = .ok (.ifnull off, 3)) (ht : (pc : Int) + off = (tgt : Int)) (k : J Γ A K tgt ls st P cs ss) : J Γ A K pc ls (.null :: st) P cs ss := fun h H locs arr hP hR hL => lv_ifnullN hK.x hK.b hd ht (k h H locs arr hP hR hL)
end NN
section P91
variable {Γ : Gam} {A : Nat → Prop} {L : Nat → Nat} {f : Nat → Int32} {g : Nat → Int32 → Int32} {T : TX} {P P' : PH → Prop} {x : XD}
/-- the sheet's row while the arrays are those of x -/
theorem row_of {k : Nat} (hk : k < 4) (h38 : ¬ x.q 38 (nI k) = -1) : Row Γ (XI Γ L f g T (fun y => y.2 = x.2)) (L (53 + k)) (x.q 38 (nI k)) (x.q 39 (nI k)).toNatClampNeg (fun j => x.q (53 + k) (nI j)) := fun h ⟨y, w, _, _, _, e⟩ => by
  have eq : y.q = x.q := congrArg Prod.fst e
  have := w.at (xcs_row (x := y) hk (by rw [eq]; exact h38))
  rw [eq] at this
  exact this
theorem oH_2 {s : Int32} {sz : Nat} (h : nI sz % 2 = 0) (hsz : sz ≤ 40) : ¬ nI sz % 2 = 1 := fun z => by rw [h] at z; exact absurd z (by decide)
theorem oH_1 {sz : Nat} (h : ¬ nI sz % 2 = 0) (hsz : sz ≤ 40) : nI sz % 2 = 1 := by
  rw [show (2 : Int32) = nI 2 by decide, nI_rem (by omega) (by decide) (by decide)] at h ⊢
  have : sz % 2 = 0 ∨ sz % 2 = 1 := by omega
  rcases this with e | e
  · rw [e] at h; exact absurd rfl h
  · rw [e]; rfl
theorem c_Xheard {s : Int32} (hI : InvS g) (hV : XV f g T) : Ct Γ A yX0_heard wX0_heard 174 0 0 [.ref (L 35), .int s] (XI Γ L f g T TT) (RI fun r h => r = oHeard f g T s ∧ XI Γ L f g T TT h) := by
  obtain ⟨hN, hBB, ho⟩ := hV
  have hW : InvW f := ⟨hN.2.2.2.2.1, hN.2.2.2.2.2.1⟩
  refine Ct.of (cc := cX0_heard) (nL := 7) (ret := (some .int)) (ls := [some (.ref (L 35)), some (.int s), none, none, none, none, none]) rfl rfl rfl (nle rfl) ?_
  intro K hK hQ
  have loop : ∀ (k sz : Nat) (x : XD), s = nI k → k < 4 → sz ≤ 40 → ¬ x.q 38 (nI k) = -1 → (x.q 38 (nI k) = 0 ∨ x.q 38 (nI k) = 1 ∨ x.q 38 (nI k) = 2) → (x.q 39 (nI k)).toNatClampNeg = sz → (∀ i : Nat, i < sz → x.q (53 + k) (nI i) = g 38 (40 * nI k + nI i)) → ∀ (r i : Nat), i + r = sz / 2 → heardL f g T s r i = oHeard f g T s → J Γ A K 48 [some (.ref (L 35)), some (.int s), some (.ref (L (53 + k))), some (.int (nI sz)), some (.int (nI i)), none, none] [] (XI Γ L f g T (fun y => y.2 = x.2)) 0 0 := by
    intro k sz x ek hk hsz h38 hsr hqs hit r
    have row := row_of (Γ := Γ) (L := L) (f := f) (g := g) (T := T) hk h38
    rw [hqs] at row
    induction r with
    | zero =>
      intro i hi hp
      refine j_iload (pc := 48) hK dX0_heard_48 rfl ?_
      refine j_iload_n (pc := 50) hK dX0_heard_50 rfl ?_
      refine j_iconst (pc := 51) (v := 2) hK dX0_heard_51 (by decide) ?_
      refine j_idiv (pc := 52) hK dX0_heard_52 (by decide) ?_
      refine j_icmp_ge (pc := 53) (tgt := 145) hK dX0_heard_53 (by decide) (fun c53 => ?_) (fun c53 => absurd (by rw [show (2 : Int32) = nI 2 by decide, pk_div (by omega) (by decide) (by decide)]; exact nI_le (by omega) (by omega)) c53)
      refine j_iconst (pc := 145) (v := (-1)) hK dX0_heard_145 (by decide) ?_
      exact j_iret (pc := 146) hK hQ (nle rfl) (nle rfl) dX0_heard_146 (fun h w => ⟨_, rfl, hp, xi_mono (fun _ _ => trivial) _ w⟩)
    | succ r ih =>
      intro i hi hp
      have e2 : 2 * nI i = nI (2 * i) := by rw [show (2 : Int32) = nI 2 by decide, pk_mul]
      have v1 : x.q (53 + k) (nI (nI (2 * i)).toNatClampNeg) = g 38 (40 * s + nI (2 * i)) := by rw [nI_clamp (by omega), hit (2 * i) (by omega), ek]
      have v2 : x.q (53 + k) (nI (nI (2 * i + 1)).toNatClampNeg) = g 38 (40 * s + nI (2 * i) + 1) := by rw [nI_clamp (by omega), hit (2 * i + 1) (by omega), ek, it_e, it_e, nI_1]; rfl
      have key : heardL f g T s (r + 1) i = if heardOk f g T (g 38 (40 * s + nI (2 * i))) (g 38 (40 * s + nI (2 * i) + 1)) then heardL f g T s r (i + 1) else nI i := by
        show (if heardOk f g T (g 38 (40 * s + 2 * nI i)) (g 38 (40 * s + 2 * nI i + 1)) then heardL f g T s r (i + 1) else nI i) = _
        rw [e2]
      rw [key] at hp
      refine j_iload (pc := 48) hK dX0_heard_48 rfl ?_
      refine j_iload_n (pc := 50) hK dX0_heard_50 rfl ?_
      refine j_iconst (pc := 51) (v := 2) hK dX0_heard_51 (by decide) ?_
      refine j_idiv (pc := 52) hK dX0_heard_52 (by decide) ?_
      refine j_icmp_ge (pc := 53) (tgt := 145) hK dX0_heard_53 (by decide) (fun c53 => absurd c53 (by rw [show (2 : Int32) = nI 2 by decide, pk_div (by omega) (by decide) (by decide)]; exact nI_ge (by omega) (by omega))) (fun c53 => ?_)
      refine j_aload_n (pc := 56) hK dX0_heard_56 rfl ?_
      refine j_aload_n (pc := 57) hK dX0_heard_57 rfl ?_
      refine j_callS (pc := 58) hK hQ (c_XsortOf hsr row) cal_X0_sortOf q967 dX0_heard_58 rfl rfl (nle rfl) (nle rfl) (nle rfl) (nle rfl) (kr_i fun r58 => ?_) kx_i
      refine J.pre fun e58 => ?_
      subst e58
      refine j_iconst (pc := 61) (v := 2) hK dX0_heard_61 (by decide) ?_
      refine j_iload (pc := 62) hK dX0_heard_62 rfl ?_
      refine j_imul (pc := 64) hK dX0_heard_64 ?_
      rw [e2]
      refine j_callS (pc := 65) hK hQ (c_Xitem hsr row (nI_pos' (by omega)) (nI_lt (by omega) (by omega)) (by omega)) cal_X0_item q976 dX0_heard_65 rfl rfl (nle rfl) (nle rfl) (nle rfl) (nle rfl) (kr_i fun r65 => ?_) kx_i
      refine J.pre fun e65 => ?_
      subst e65
      rw [v1]
      refine j_ist5 (pc := 68) hK dX0_heard_68 (by decide) rfl ?_
      refine j_aload_n (pc := 70) hK dX0_heard_70 rfl ?_
      refine j_aload_n (pc := 71) hK dX0_heard_71 rfl ?_
      refine j_callS (pc := 72) hK hQ (c_XsortOf hsr row) cal_X0_sortOf q967 dX0_heard_72 rfl rfl (nle rfl) (nle rfl) (nle rfl) (nle rfl) (kr_i fun r72 => ?_) kx_i
      refine J.pre fun e72 => ?_
      subst e72
      refine j_iconst (pc := 75) (v := 2) hK dX0_heard_75 (by decide) ?_
      refine j_iload (pc := 76) hK dX0_heard_76 rfl ?_
      refine j_imul (pc := 78) hK dX0_heard_78 ?_
      refine j_iconst (pc := 79) (v := 1) hK dX0_heard_79 (by decide) ?_
      refine j_iadd (pc := 80) hK dX0_heard_80 ?_
      rw [e2, nI_1]
      refine j_callS (pc := 81) hK hQ (c_Xitem hsr row (nI_pos' (by omega)) (nI_lt (by omega) (by omega)) (by omega)) cal_X0_item q976 dX0_heard_81 rfl rfl (nle rfl) (nle rfl) (nle rfl) (nle rfl) (kr_i fun r81 => ?_) kx_i
      refine J.pre fun e81 => ?_
      subst e81
      rw [v2]
      refine j_ist6 (pc := 84) hK dX0_heard_84 (by decide) rfl ?_
      refine j_aload_n (pc := 86) hK dX0_heard_86 rfl ?_
      refine j_iload (pc := 87) hK dX0_heard_87 rfl ?_
      refine j_callV (pc := 89) hK hQ (c_XisBoat (fun _ w => w) _) cal_X0_isBoat (xi_isC (fun _ w => w)) q186 dX0_heard_89 rfl rfl (nle rfl) (nle rfl) (nle rfl) (nle rfl) (kr_i fun r89 => ?_) kx_i
      refine J.pre fun e89 => ?_
      subst e89
      refine j_if_eq_b (pc := 92) (tgt := 136) hK dX0_heard_92 (by decide) (fun c92 => ?_) (fun c92 => ?_)
      · refine j_iload (pc := 136) hK dX0_heard_136 rfl ?_
        exact j_iret (pc := 138) hK hQ (nle rfl) (nle rfl) dX0_heard_138 (fun h w => ⟨_, rfl, by rw [← hp]; first | exact (if_neg (hd_a c92)).symm | exact (if_neg (hd_b c103)).symm | exact (if_neg (hd_c c113)).symm | exact (if_neg (hd_d c125 c133)).symm | exact (if_neg (hd_e c125 c133)).symm, xi_mono (fun _ _ => trivial) _ w⟩)
      · have hb := bo_of c92 hN
        refine j_iload (pc := 95) hK dX0_heard_95 rfl ?_
        refine j_i2l (pc := 97) hK dX0_heard_97 ?_
        refine j_lconst (pc := 98) (v := 0) hK dX0_heard_98 (by decide) ?_
        refine j_lconst (pc := 99) (v := 1) hK dX0_heard_99 (by decide) ?_
        refine j_callS (pc := 100) hK hQ (c_Xin (l := 0) (u := 1) (by decide) (by decide)) cal_X0_in q106 dX0_heard_100 rfl rfl (nle rfl) (nle rfl) (nle rfl) (nle rfl) (kr_i fun r100 => ?_) kx_i
        refine J.pre fun e100 => ?_
        subst e100
        refine j_if_eq_b (pc := 103) (tgt := 136) hK dX0_heard_103 (by decide) (fun c103 => ?_) (fun c103 => ?_)
        · refine j_iload (pc := 136) hK dX0_heard_136 rfl ?_
          exact j_iret (pc := 138) hK hQ (nle rfl) (nle rfl) dX0_heard_138 (fun h w => ⟨_, rfl, by rw [← hp]; first | exact (if_neg (hd_a c92)).symm | exact (if_neg (hd_b c103)).symm | exact (if_neg (hd_c c113)).symm | exact (if_neg (hd_d c125 c133)).symm | exact (if_neg (hd_e c125 c133)).symm, xi_mono (fun _ _ => trivial) _ w⟩)
        · refine j_aload_n (pc := 106) hK dX0_heard_106 rfl ?_
          refine xi_getR (pc := 107) (k := 4) hK (fun _ w => w) (by decide) rfl q752 rfl dX0_heard_107 ?_
          refine j_iload (pc := 110) hK dX0_heard_110 rfl ?_
          refine xi_aldB (pc := 112) (k := 4) (n := 6) hK (fun _ w => w) (by decide) rfl rfl rfl rfl hb dX0_heard_112 ?_
          refine j_if_ne (pc := 113) (tgt := 136) hK dX0_heard_113 (by decide) (fun c113 => ?_) (fun c113 => ?_)
          · refine j_iload (pc := 136) hK dX0_heard_136 rfl ?_
            exact j_iret (pc := 138) hK hQ (nle rfl) (nle rfl) dX0_heard_138 (fun h w => ⟨_, rfl, by rw [← hp]; first | exact (if_neg (hd_a c92)).symm | exact (if_neg (hd_b c103)).symm | exact (if_neg (hd_c c113)).symm | exact (if_neg (hd_d c125 c133)).symm | exact (if_neg (hd_e c125 c133)).symm, xi_mono (fun _ _ => trivial) _ w⟩)
          · refine j_aload_n (pc := 116) hK dX0_heard_116 rfl ?_
            refine j_iload (pc := 117) hK dX0_heard_117 rfl ?_
            refine j_callV (pc := 119) hK hQ (c_XwouldComeG (φ := fun y => y.2 = x.2) (fun y v e => e) hb hW (hBB _ hb) ho) cal_X0_wouldCome (xi_isC (fun _ w => w)) q299 dX0_heard_119 rfl rfl (nle rfl) (nle rfl) (nle rfl) (nle rfl) (kr_i fun r119 => ?_) kx_i
            refine J.pre fun e119 => ?_
            subst e119
            refine j_iload (pc := 122) hK dX0_heard_122 rfl ?_
            refine j_iconst (pc := 124) (v := 1) hK dX0_heard_124 (by decide) ?_
            refine j_icmp_ne (pc := 125) (tgt := 132) hK dX0_heard_125 (by decide) (fun c125 => ?_) (fun c125 => ?_)
            · refine j_iconst (pc := 132) (v := 0) hK dX0_heard_132 (by decide) ?_
              refine j_icmp_eq (pc := 133) (tgt := 139) hK dX0_heard_133 (by decide) (fun c133 => ?_) (fun c133 => ?_)
              · refine j_iinc4 (pc := 139) (v := 1) hK dX0_heard_139 (by decide) rfl (by decide) ?_
                refine j_goto (pc := 142) (tgt := 48) hK dX0_heard_142 (by decide) ?_
                rw [nI_1]
                refine J.fg _ ?_ (ih (i + 1) (by omega) (by rw [← hp]; first | exact (if_pos (hd_y1 c92 c103 c113 c125 c133)).symm | exact (if_pos (hd_y2 c92 c103 c113 c125 c133)).symm))
                simp [subL]
              · refine j_iload (pc := 136) hK dX0_heard_136 rfl ?_
                exact j_iret (pc := 138) hK hQ (nle rfl) (nle rfl) dX0_heard_138 (fun h w => ⟨_, rfl, by rw [← hp]; first | exact (if_neg (hd_a c92)).symm | exact (if_neg (hd_b c103)).symm | exact (if_neg (hd_c c113)).symm | exact (if_neg (hd_d c125 c133)).symm | exact (if_neg (hd_e c125 c133)).symm, xi_mono (fun _ _ => trivial) _ w⟩)
            · refine j_iconst (pc := 128) (v := 1) hK dX0_heard_128 (by decide) ?_
              refine j_goto (pc := 129) (tgt := 133) hK dX0_heard_129 (by decide) ?_
              refine j_icmp_eq (pc := 133) (tgt := 139) hK dX0_heard_133 (by decide) (fun c133 => ?_) (fun c133 => ?_)
              · refine j_iinc4 (pc := 139) (v := 1) hK dX0_heard_139 (by decide) rfl (by decide) ?_
                refine j_goto (pc := 142) (tgt := 48) hK dX0_heard_142 (by decide) ?_
                rw [nI_1]
                refine J.fg _ ?_ (ih (i + 1) (by omega) (by rw [← hp]; first | exact (if_pos (hd_y1 c92 c103 c113 c125 c133)).symm | exact (if_pos (hd_y2 c92 c103 c113 c125 c133)).symm))
                simp [subL]
              · refine j_iload (pc := 136) hK dX0_heard_136 rfl ?_
                exact j_iret (pc := 138) hK hQ (nle rfl) (nle rfl) dX0_heard_138 (fun h w => ⟨_, rfl, by rw [← hp]; first | exact (if_neg (hd_a c92)).symm | exact (if_neg (hd_b c103)).symm | exact (if_neg (hd_c c113)).symm | exact (if_neg (hd_d c125 c133)).symm | exact (if_neg (hd_e c125 c133)).symm, xi_mono (fun _ _ => trivial) _ w⟩)
  by_cases hs : 0 ≤ s ∧ s ≤ 3
  · obtain ⟨k, hk3, ek, -⟩ := it_nI hs
    have hk : k < 4 := by omega
    obtain ⟨z1, z2, z3⟩ := hI k hk
    by_cases h36 : g 36 (nI k) = -1
    · skip
      refine j_iload_n (pc := 0) hK dX0_heard_0 rfl ?_
      refine j_callS (pc := 1) hK hQ (c_XisSheet _) cal_X0_isSheet q964 dX0_heard_1 rfl rfl (nle rfl) (nle rfl) (nle rfl) (nle rfl) (kr_i fun r1 => ?_) kx_i
      refine J.pre fun e1 => ?_
      subst e1
      refine j_if_ne_b (pc := 4) (tgt := 10) hK dX0_heard_4 (by decide) (fun c4 => ?_) (fun c4 => absurd hs c4)
      refine j_aload_n (pc := 10) hK dX0_heard_10 rfl ?_
      refine xi_getR (pc := 11) (k := 34) hK (fun _ w => w) (by decide) rfl q785 rfl dX0_heard_11 ?_
      refine j_iload_n (pc := 14) hK dX0_heard_14 rfl ?_
      refine xi_shl (pc := 15) hK (fun _ w => w) ek hk dX0_heard_15 ?_
      refine xi_rowN (pc := 16) (n := k) hK (fun _ w => w) hk h36 q738 dX0_heard_16 ?_
      refine j_Nst2 (pc := 19) hK dX0_heard_19 (by decide) rfl ?_
      refine j_aload_nN (pc := 20) hK dX0_heard_20 rfl ?_
      refine j_ifnonnullN (pc := 21) hK dX0_heard_21 ?_
      refine j_bipush (pc := 24) (v := (-11)) hK dX0_heard_24 (by decide) ?_
      exact j_iret (pc := 26) hK hQ (nle rfl) (nle rfl) dX0_heard_26 (fun h w => ⟨_, rfl, by unfold oHeard; rw [if_neg (fun z => z hs), if_pos (by rw [ek]; exact h36)], w⟩)
    · have h3 := z3.resolve_left h36
      obtain ⟨sz, hsz, esz⟩ := nI_of2 (x := g 37 (nI k)) (M := 40) (n := 40) (by decide) (Int32.not_lt.mpr z1) z2
      refine j_iload_n (pc := 0) hK dX0_heard_0 rfl ?_
      refine j_callS (pc := 1) hK hQ (c_XisSheet _) cal_X0_isSheet q964 dX0_heard_1 rfl rfl (nle rfl) (nle rfl) (nle rfl) (nle rfl) (kr_i fun r1 => ?_) kx_i
      refine J.pre fun e1 => ?_
      subst e1
      refine j_if_ne_b (pc := 4) (tgt := 10) hK dX0_heard_4 (by decide) (fun c4 => ?_) (fun c4 => absurd hs c4)
      refine j_aload_n (pc := 10) hK dX0_heard_10 rfl ?_
      refine xi_getR (pc := 11) (k := 34) hK (fun _ w => w) (by decide) rfl q785 rfl dX0_heard_11 ?_
      refine j_iload_n (pc := 14) hK dX0_heard_14 rfl ?_
      refine xi_shl (pc := 15) hK (fun _ w => w) ek hk dX0_heard_15 ?_
      refine xi_rowR (pc := 16) (n := k) hK (fun _ w => w) hk h36 q738 dX0_heard_16 ?_
      refine xi_open fun x r _ => ?_
      have hq38 : x.q 38 (nI k) = g 36 (nI k) := (r.2.2.2.2.2.2 k hk).1
      have hq := (r.2.2.2.2.2.2 k hk).2 h36
      have hq39 : (x.q 39 (nI k)).toNatClampNeg = sz := by rw [hq.1, esz, nI_clamp (by omega)]
      have h38 : ¬ x.q 38 (nI k) = -1 := by rw [hq38]; exact h36
      have hsr : x.q 38 (nI k) = 0 ∨ x.q 38 (nI k) = 1 ∨ x.q 38 (nI k) = 2 := by rw [hq38]; exact h3
      have row := row_of (Γ := Γ) (L := L) (f := f) (g := g) (T := T) hk h38
      rw [hq39] at row
      refine J.mono (P' := XI Γ L f g T (fun y => y.2 = x.2)) (fun h w => xi_close w rfl r rfl) ?_
      refine j_ast2 (pc := 19) hK dX0_heard_19 (by decide) rfl ?_
      refine j_aload_n (pc := 20) hK dX0_heard_20 rfl ?_
      refine j_ifnonnull (pc := 21) (tgt := 27) hK dX0_heard_21 (by decide) ?_
      refine j_aload_n (pc := 27) hK dX0_heard_27 rfl ?_
      refine j_aload_n (pc := 28) hK dX0_heard_28 rfl ?_
      refine j_callS (pc := 29) hK hQ (c_XsortOf hsr row) cal_X0_sortOf q967 dX0_heard_29 rfl rfl (nle rfl) (nle rfl) (nle rfl) (nle rfl) (kr_i fun r29 => ?_) kx_i
      refine J.pre fun e29 => ?_
      subst e29
      refine j_callS (pc := 32) hK hQ (c_XlengthOf hsr row) cal_X0_lengthOf q972 dX0_heard_32 rfl rfl (nle rfl) (nle rfl) (nle rfl) (nle rfl) (kr_i fun r32 => ?_) kx_i
      refine J.pre fun e32 => ?_
      subst e32
      refine j_ist3 (pc := 35) hK dX0_heard_35 (by decide) rfl ?_
      refine j_iload_n (pc := 36) hK dX0_heard_36 rfl ?_
      refine j_iconst (pc := 37) (v := 2) hK dX0_heard_37 (by decide) ?_
      refine j_irem (pc := 38) hK dX0_heard_38 (by decide) ?_
      refine j_if_eq (pc := 39) (tgt := 45) hK dX0_heard_39 (by decide) (fun c39 => ?_) (fun c39 => ?_)
      · refine j_iconst (pc := 45) (v := 0) hK dX0_heard_45 (by decide) ?_
        refine j_ist4 (pc := 46) hK dX0_heard_46 (by decide) rfl ?_
        exact loop k sz x ek hk hsz h38 hsr hq39 (fun i hi => hq.2 i (by rw [esz]; exact nI_lt hi (by omega)) (by omega)) (sz / 2) 0 (by omega) (by unfold oHeard; rw [if_neg (fun z => z hs), if_neg (by rw [ek]; exact h36), if_neg (by rw [ek, esz]; exact oH_2 (s := s) c39 hsz), ek, esz, nI_clamp (by omega)])
      · refine j_bipush (pc := 42) (v := (-2)) hK dX0_heard_42 (by decide) ?_
        exact j_iret (pc := 44) hK hQ (nle rfl) (nle rfl) dX0_heard_44 (fun h w => ⟨_, rfl, by unfold oHeard; rw [if_neg (fun z => z hs), if_neg (by rw [ek]; exact h36), if_pos (by rw [ek, esz]; exact oH_1 c39 hsz)], xi_mono (fun _ _ => trivial) _ w⟩)
  · skip
    refine j_iload_n (pc := 0) hK dX0_heard_0 rfl ?_
    refine j_callS (pc := 1) hK hQ (c_XisSheet _) cal_X0_isSheet q964 dX0_heard_1 rfl rfl (nle rfl) (nle rfl) (nle rfl) (nle rfl) (kr_i fun r1 => ?_) kx_i
    refine J.pre fun e1 => ?_
    subst e1
    refine j_if_ne_b (pc := 4) (tgt := 10) hK dX0_heard_4 (by decide) (fun c4 => absurd c4 hs) (fun c4 => ?_)
    refine j_bipush (pc := 7) (v := (-2)) hK dX0_heard_7 (by decide) ?_
    exact j_iret (pc := 9) hK hQ (nle rfl) (nle rfl) dX0_heard_9 (fun h w => ⟨_, rfl, by unfold oHeard; rw [if_pos hs], w⟩)
end P91
