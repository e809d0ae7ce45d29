/-! the class: callAt, told, count, force, set -/
set_option maxRecDepth 100000
section X59
variable {Γ : Gam} {A : Nat → Prop} {L : Nat → Nat} {f : Nat → Int32} {g : Nat → Int32 → Int32} {T : TX} {P : PH → Prop}
theorem upd_upd (k : Nat) (v w : Int32) : upd (upd f k v) k w = upd f k w := by
  funext j
  unfold upd
  by_cases h : j = k
  · rw [if_pos h, if_pos h]
  · rw [if_neg h, if_neg h, if_neg h]
theorem upd_self (k : Nat) : upd f k (f k) = f := by
  funext j
  unfold upd
  by_cases h : j = k
  · rw [if_pos h, h]
  · rw [if_neg h]
theorem needI_m {b v : Int32} : needI (upd f 10 v) g b = needI f g b := rfl
theorem hearI_m {b v : Int32} : hearI (upd f 10 v) g b = hearI f g b := rfl
theorem nmF_m {b c m v : Int32} : nmF (upd f 10 v) g b c m = nmF f g b c m := rfl
theorem ruleI_m {w : Nat} {b c m v : Int32} : ruleI (upd f 10 v) g T w b c m = ruleI f g T w b c m := by
  unfold ruleI
  rw [nmF_m, upd_o (show (18 : Nat) ≠ 10 by decide)]
theorem wc_m {b v : Int32} : b2i (WC (upd f 10 v) g T b (g 3 b) (upd f 10 v 10)) = b2i (WC f g T b (g 3 b) v) := by
  apply b2i_eq
  unfold WC
  rw [ruleI_m, ruleI_m, hearI_m, upd_s]
theorem c_XwouldComeM {b v : Int32} (hb : Bo f b) (hN : InvW f) (hB : InvB g b) (ho : OkR f T) : Ct Γ A yX0_wouldCome wX0_wouldCome 173 0 0 [.ref (L 35), .int b] (XI Γ L (upd f 10 v) g T TT) (RI fun r h => r = b2i (WC f g T b (g 3 b) v) ∧ XI Γ L (upd f 10 v) g T TT h) := by
  have := c_XwouldCome (Γ := Γ) (A := A) (L := L) (f := upd f 10 v) (g := g) (T := T) hb hN hB (ho.upd _ (by decide) (by decide))
  rw [wc_m] at this
  exact this
theorem c_XneedsM {b v : Int32} (hb : Bo f b) (hN : InvW f) (hB : InvB g b) : Ct Γ A yX0_needs wX0_needs 7 0 0 [.ref (L 35), .int b] (XI Γ L (upd f 10 v) g T TT) (RI fun r h => r = needI f g b ∧ XI Γ L (upd f 10 v) g T TT h) := c_Xneeds (φ := TT) (f := upd f 10 v) (fun _ w => w) hb hN hB
theorem c_XcallAt {b : Int32} (hV : XV f g T) : Ct Γ A yX0_callAt wX0_callAt 174 0 0 [.ref (L 35), .int b] (XI Γ L f g T TT) (RI fun r h => r = oCallAt f g T b ∧ XI Γ L f g T TT h) := by
  refine Ct.ofW (cc := cX0_callAt) (nL := 6) (ret := (some .int)) (hh := hX0_callAt) (ls := [some (.ref (L 35)), some (.int b), none, none, none, none]) rfl rfl rfl (nle rfl) ?_
  intro K hK hQ
  have loop : ∀ (hb : Bo f b) (r n : Nat) (v : Int32) (l4 l5 : Option Value), n + r = 241 → catL f g T b r n = oCallAt f g T b → J Γ A K 30 [some (.ref (L 35)), some (.int b), some (.int (f 10)), some (.int (nI n)), none, none] [] (XI Γ L (upd f 10 v) g T TT) 0 0 := by
    intro hb r
    have hB := hV.2.1 b hb
    have ho := hV.2.2
    have hN := hV.1.w
    induction r with
    | zero =>
      intro n v l4 l5 hi hp
      have : n = 241 := by omega
      subst this
      refine j_iload_n (pc := 30) hK dX0_callAt_30 rfl ?_
      refine j_sipush (pc := 31) (v := 240) hK dX0_callAt_31 (by decide) ?_
      refine j_icmp_gt (pc := 34) (tgt := 87) hK dX0_callAt_34 (by decide) (fun c34 => ?_) (fun c34 => absurd (by decide) c34)
      refine j_iconst (pc := 87) (v := (-1)) hK dX0_callAt_87 (by decide) ?_
      refine j_ist3 (pc := 88) hK dX0_callAt_88 (by decide) rfl ?_
      refine j_aload_n (pc := 89) hK dX0_callAt_89 rfl ?_
      refine j_iload_n (pc := 90) hK dX0_callAt_90 rfl ?_
      refine xi_putF (pc := 91) (k := 8) (n := 10) hK (by decide) rfl (by decide) rfl (fun _ e => e) q758 rfl rfl rfl rfl dX0_callAt_91 ?_
      refine j_iload_n (pc := 94) hK dX0_callAt_94 rfl ?_
      exact j_iret (pc := 95) hK hQ (nle rfl) (nle rfl) dX0_callAt_95 (fun h w => ⟨_, rfl, hp, by rw [upd_upd, upd_self] at w; exact w⟩)
    | succ r ih =>
      intro n v l4 l5 hi hp
      refine j_iload_n (pc := 30) hK dX0_callAt_30 rfl ?_
      refine j_sipush (pc := 31) (v := 240) hK dX0_callAt_31 (by decide) ?_
      refine j_icmp_gt (pc := 34) (tgt := 87) hK dX0_callAt_34 (by decide) (fun c34 => absurd c34 (by rw [show (240 : Int32) = nI 240 by decide]; exact Int32.not_lt.mpr (nI_le (by omega) (by decide)))) (fun c34 => ?_)
      refine j_aload_n (pc := 37) hK dX0_callAt_37 rfl ?_
      refine j_iload_n (pc := 38) hK dX0_callAt_38 rfl ?_
      refine j_iload_n (pc := 39) hK dX0_callAt_39 rfl ?_
      refine j_iadd (pc := 40) hK dX0_callAt_40 ?_
      refine xi_putF (pc := 41) (k := 8) (n := 10) hK (by decide) rfl (by decide) rfl (fun _ e => e) q758 rfl rfl rfl rfl dX0_callAt_41 ?_
      refine j_aload_n (pc := 44) hK dX0_callAt_44 rfl ?_
      refine xi_getF (pc := 45) (k := 8) (n := 10) hK (fun _ w => w) rfl rfl (by decide) rfl q758 rfl dX0_callAt_45 ?_
      refine j_aload_n (pc := 48) hK dX0_callAt_48 rfl ?_
      refine j_iload_n (pc := 49) hK dX0_callAt_49 rfl ?_
      rw [upd_upd]
      refine j_callV (pc := 50) hK hQ (c_XneedsM hb hN hB) cal_X0_needs (xi_isC (fun _ w => w)) q873 dX0_callAt_50 rfl rfl (nle rfl) (nle rfl) (nle rfl) (nle rfl) (kr_i fun r50 => ?_) kx_i
      refine J.pre fun e50 => ?_
      subst e50
      refine j_iadd (pc := 53) hK dX0_callAt_53 ?_
      rw [upd_s]
      refine j_aload_n (pc := 54) hK dX0_callAt_54 rfl ?_
      refine j_iload_n (pc := 55) hK dX0_callAt_55 rfl ?_
      refine j_callV (pc := 56) hK hQ (c_Xdue (fun _ w => w) (show Bo (upd f 10 (f 10 + nI n)) b from hb)) cal_X0_due (xi_isC (fun _ w => w)) q347 dX0_callAt_56 rfl rfl (nle rfl) (nle rfl) (nle rfl) (nle rfl) (kr_i fun r56 => ?_) kx_i
      refine J.pre fun e56 => ?_
      subst e56
      refine j_icmp_lt (pc := 59) (tgt := 81) hK dX0_callAt_59 (by decide) (fun c59 => ?_) (fun c59 => ?_)
      · have hcat : catL f g T b (r + 1) n = catL f g T b r (n + 1) := by first | exact catL_n1 (f := f) (g := g) (T := T) (b := b) (r := r) (n := n) c59 | exact catL_n2 (f := f) (g := g) (T := T) (b := b) (r := r) (n := n) c67
        refine j_iinc3 (pc := 81) (v := 1) hK dX0_callAt_81 (by decide) rfl (by decide) ?_
        refine j_goto (pc := 84) (tgt := 30) hK dX0_callAt_84 (by decide) ?_
        rw [nI_1]
        exact ih (n + 1) _ none none (by omega) (hcat.symm.trans hp)
      · refine j_aload_n (pc := 62) hK dX0_callAt_62 rfl ?_
        refine j_iload_n (pc := 63) hK dX0_callAt_63 rfl ?_
        refine j_callV (pc := 64) hK hQ (c_XwouldComeM hb hN hB ho) cal_X0_wouldCome (xi_isC (fun _ w => w)) q299 dX0_callAt_64 rfl rfl (nle rfl) (nle rfl) (nle rfl) (nle rfl) (kr_i fun r64 => ?_) kx_i
        refine J.pre fun e64 => ?_
        subst e64
        refine j_if_eq_b (pc := 67) (tgt := 81) hK dX0_callAt_67 (by decide) (fun c67 => ?_) (fun c67 => ?_)
        · have hcat : catL f g T b (r + 1) n = catL f g T b r (n + 1) := by first | exact catL_n1 (f := f) (g := g) (T := T) (b := b) (r := r) (n := n) c59 | exact catL_n2 (f := f) (g := g) (T := T) (b := b) (r := r) (n := n) c67
          refine j_iinc3 (pc := 81) (v := 1) hK dX0_callAt_81 (by decide) rfl (by decide) ?_
          refine j_goto (pc := 84) (tgt := 30) hK dX0_callAt_84 (by decide) ?_
          rw [nI_1]
          exact ih (n + 1) _ none none (by omega) (hcat.symm.trans hp)
        · have hcat : catL f g T b (r + 1) n = nI n := catL_p (f := f) (g := g) (T := T) (b := b) (r := r) (n := n) c59 c67
          refine j_iload_n (pc := 70) hK dX0_callAt_70 rfl ?_
          refine j_ist4 (pc := 71) hK dX0_callAt_71 (by decide) rfl ?_
          refine j_aload_n (pc := 73) hK dX0_callAt_73 rfl ?_
          refine j_iload_n (pc := 74) hK dX0_callAt_74 rfl ?_
          refine xi_putF (pc := 75) (k := 8) (n := 10) hK (by decide) rfl (by decide) rfl (fun _ e => e) q758 rfl rfl rfl rfl dX0_callAt_75 ?_
          refine j_iload (pc := 78) hK dX0_callAt_78 rfl ?_
          exact j_iret (pc := 80) hK hQ (nle rfl) (nle rfl) dX0_callAt_80 (fun h w => ⟨_, rfl, hcat.symm.trans hp, by rw [upd_upd, upd_self] at w; exact w⟩)
  refine j_aload_n (pc := 0) hK dX0_callAt_0 rfl ?_
  refine j_iload_n (pc := 1) hK dX0_callAt_1 rfl ?_
  refine j_callV (pc := 2) hK hQ (c_XisBoat (fun _ w => w) _) cal_X0_isBoat (xi_isC (fun _ w => w)) q186 dX0_callAt_2 rfl rfl (nle rfl) (nle rfl) (nle rfl) (nle rfl) (kr_i fun r2 => ?_) kx_i
  refine J.pre fun e2 => ?_
  subst e2
  refine j_if_ne_b (pc := 5) (tgt := 11) hK dX0_callAt_5 (by decide) (fun c5 => ?_) (fun c5 => ?_)
  · have hb := bo_of c5 hV.1
    refine j_aload_n (pc := 11) hK dX0_callAt_11 rfl ?_
    refine xi_getR (pc := 12) (k := 4) hK (fun _ w => w) (by decide) rfl q752 rfl dX0_callAt_12 ?_
    refine j_iload_n (pc := 15) hK dX0_callAt_15 rfl ?_
    refine xi_aldB (pc := 16) (k := 4) (n := 6) hK (fun _ w => w) (by decide) rfl rfl rfl rfl hb dX0_callAt_16 ?_
    refine j_if_eq (pc := 17) (tgt := 23) hK dX0_callAt_17 (by decide) (fun c17 => ?_) (fun c17 => ?_)
    · refine j_aload_n (pc := 23) hK dX0_callAt_23 rfl ?_
      refine xi_getF (pc := 24) (k := 8) (n := 10) hK (fun _ w => w) rfl rfl (by decide) rfl q758 rfl dX0_callAt_24 ?_
      refine j_ist2 (pc := 27) hK dX0_callAt_27 (by decide) rfl ?_
      refine j_iconst (pc := 28) (v := 0) hK dX0_callAt_28 (by decide) ?_
      refine j_ist3 (pc := 29) hK dX0_callAt_29 (by decide) rfl ?_
      refine J.mono (P' := XI Γ L (upd f 10 (f 10)) g T TT) (fun h w => by rw [upd_self]; exact w) ?_
      exact loop hb 241 0 (f 10) none none (by omega) (by unfold oCallAt; rw [if_neg (fun z => z c5), if_neg (fun z => z c17)])
    · refine j_bipush (pc := 20) (v := (-3)) hK dX0_callAt_20 (by decide) ?_
      exact j_iret (pc := 22) hK hQ (nle rfl) (nle rfl) dX0_callAt_22 (fun h w => ⟨_, rfl, by unfold oCallAt; first | rw [if_pos c5] | rw [if_neg (fun z => z c5), if_pos c17], w⟩)
  · refine j_bipush (pc := 8) (v := (-2)) hK dX0_callAt_8 (by decide) ?_
    exact j_iret (pc := 10) hK hQ (nle rfl) (nle rfl) dX0_callAt_10 (fun h w => ⟨_, rfl, by unfold oCallAt; first | rw [if_pos c5] | rw [if_neg (fun z => z c5), if_pos c17], w⟩)
theorem told_low {x : Int32} (h : 0 ≤ x ∧ x ≤ 10) (h4 : ¬ x = 4) (h5 : ¬ x = 5) (h6 : ¬ x = 6) (h7 : ¬ x = 7) (h8 : ¬ x = 8) (h9 : ¬ x = 9) (h10 : ¬ x = 10) : x = 0 ∨ x = 1 ∨ x = 2 ∨ x = 3 := by
  obtain ⟨n, hn, rfl⟩ := nI_of2 (M := 10) (n := 10) (by decide) (Int32.not_lt.mpr h.1) h.2
  rcases (show n = 0 ∨ n = 1 ∨ n = 2 ∨ n = 3 ∨ n = 4 ∨ n = 5 ∨ n = 6 ∨ n = 7 ∨ n = 8 ∨ n = 9 ∨ n = 10 by omega) with rfl | rfl | rfl | rfl | rfl | rfl | rfl | rfl | rfl | rfl | rfl
  · exact Or.inl rfl
  · exact Or.inr (Or.inl rfl)
  · exact Or.inr (Or.inr (Or.inl rfl))
  · exact Or.inr (Or.inr (Or.inr rfl))
  · exact absurd rfl h4
  · exact absurd rfl h5
  · exact absurd rfl h6
  · exact absurd rfl h7
  · exact absurd rfl h8
  · exact absurd rfl h9
  · exact absurd rfl h10
theorem kindB_eq {b : Int32} (hB : InvB g b) : kindB (g 1 b).toNatClampNeg = g 1 b := by
  obtain ⟨k, hk, e1⟩ := i6 hB.1 hB.2.1
  rw [e1, nI_clamp (by omega)]
  rcases n6 hk with rfl | rfl | rfl | rfl | rfl | rfl <;> rfl
theorem j_kind {K : JC} {cc : ByteArray} {nL : Nat} {own : String} {hh : List (Nat × Nat × Nat × Nat)} {pc idx a k : Nat} {n : Int32} {ls : List (Option Value)} {st : List Value} {cs ss d mc ms : Nat} {ret : Option FieldType} {Φ : Outcome → PH → Prop} (hK : Jok Γ A K cc nL own hh) (hQ : Kq Γ A K d mc ms ret Φ) (hb : BtA P a k n) (hlink : Cond.methodLink own idx yX9_kind ∈ lw_all) (hd : decode cc pc = .ok (.invokevirtual idx, 3)) (hdd : 3 < d) (hcs : cs ≤ mc) (hss : ss ≤ ms) (hsum : (st.map fun v => v.category).sum ≤ 8) (kk : J Γ A K (pc + 3) ls (.int (kindB k) :: st) P cs ss) : J Γ A K pc ls (.ref a :: st) P cs ss := by
  have hC := hb.isC
  rcases k6 hb.1 with rfl | rfl | rfl | rfl | rfl | rfl
  · refine j_callU (owner := RX9) (as := []) hK hQ (c_BX9_kind) calU_X9_X9_kind hC hlink q210 ⟨by decide, by decide⟩ (fun s hw B ts => va_Decl.of (ts _ q208) (ts _ q231)) hd rfl rfl (by omega) hcs hss hsum (kr_i fun r => J.pre fun er => ?_) kx_i
    subst er
    exact kk
  · refine j_callU (owner := RX9) (as := []) hK hQ (c_BX10_kind hb) calU_X10_X9_kind hC hlink q210 ⟨by decide, by decide⟩ (fun s hw B ts => va_Decl.of (ts _ q208) (ts _ q231)) hd rfl rfl (by omega) hcs hss hsum (kr_i fun r => J.pre fun er => ?_) kx_i
    subst er
    exact kk
  · refine j_callU (owner := RX9) (as := []) hK hQ (c_BX11_kind hb) calU_X11_X9_kind hC hlink q210 ⟨by decide, by decide⟩ (fun s hw B ts => va_Decl.of (ts _ q208) (ts _ q231)) hd rfl rfl (by omega) hcs hss hsum (kr_i fun r => J.pre fun er => ?_) kx_i
    subst er
    exact kk
  · refine j_callU (owner := RX9) (as := []) hK hQ (c_BX12_kind hb) calU_X12_X9_kind hC hlink q210 ⟨by decide, by decide⟩ (fun s hw B ts => va_Decl.of (ts _ q208) (ts _ q231)) hd rfl rfl (by omega) hcs hss hsum (kr_i fun r => J.pre fun er => ?_) kx_i
    subst er
    exact kk
  · refine j_callU (owner := RX9) (as := []) hK hQ (c_BX13_kind hb) calU_X13_X9_kind hC hlink q210 ⟨by decide, by decide⟩ (fun s hw B ts => va_Decl.of (ts _ q208) (ts _ q231)) hd rfl rfl (by omega) hcs hss hsum (kr_i fun r => J.pre fun er => ?_) kx_i
    subst er
    exact kk
  · refine j_callU (owner := RX9) (as := []) hK hQ (c_BX14_kind hb) calU_X14_X9_kind hC hlink q210 ⟨by decide, by decide⟩ (fun s hw B ts => va_Decl.of (ts _ q208) (ts _ q231)) hd rfl rfl (by omega) hcs hss hsum (kr_i fun r => J.pre fun er => ?_) kx_i
    subst er
    exact kk
theorem c_Xtold {b what : Int32} (hV : XV f g T) : Ct Γ A yX0_told wX0_told 175 0 0 [.ref (L 35), .int b, .int what] (XI Γ L f g T TT) (RI fun r h => r = oTold f g T b what ∧ XI Γ L f g T TT h) := by
  have hN := hV.1.w
  have ho := hV.2.2
  refine Ct.of (cc := cX0_told) (nL := 3) (ret := (some .int)) (ls := [some (.ref (L 35)), some (.int b), some (.int what)]) rfl rfl rfl (nle rfl) ?_
  intro K hK hQ
  refine j_aload_n (pc := 0) hK dX0_told_0 rfl ?_
  refine j_iload_n (pc := 1) hK dX0_told_1 rfl ?_
  refine j_callV (pc := 2) hK hQ (c_XisBoat (fun _ w => w) _) cal_X0_isBoat (xi_isC (fun _ w => w)) q186 dX0_told_2 rfl rfl (nle rfl) (nle rfl) (nle rfl) (nle rfl) (kr_i fun r2 => ?_) kx_i
  refine J.pre fun e2 => ?_
  subst e2
  refine j_if_eq_b (pc := 5) (tgt := 20) hK dX0_told_5 (by decide) (fun c5 => ?_) (fun c5 => ?_)
  · have hz : oTold f g T b what = -2 := by unfold oTold; first | rw [if_pos c5] | rw [if_neg (fun z => z c5), if_pos c17]
    refine j_bipush (pc := 20) (v := (-2)) hK dX0_told_20 (by decide) ?_
    exact j_iret (pc := 22) hK hQ (nle rfl) (nle rfl) dX0_told_22 (fun h w => ⟨_, rfl, hz.symm, w⟩)
  · refine j_iload_n (pc := 8) hK dX0_told_8 rfl ?_
    refine j_i2l (pc := 9) hK dX0_told_9 ?_
    refine j_lconst (pc := 10) (v := 0) hK dX0_told_10 (by decide) ?_
    refine j_ldc2 (pc := 11) hK q206 dX0_told_11 ?_
    refine j_callS (pc := 14) hK hQ (c_Xin (l := 0) (u := 10) (by decide) (by decide)) cal_X0_in q106 dX0_told_14 rfl rfl (nle rfl) (nle rfl) (nle rfl) (nle rfl) (kr_i fun r14 => ?_) kx_i
    refine J.pre fun e14 => ?_
    subst e14
    refine j_if_ne_b (pc := 17) (tgt := 23) hK dX0_told_17 (by decide) (fun c17 => ?_) (fun c17 => ?_)
    · have hb := bo_of c5 hV.1
      have hB := hV.2.1 b hb
      have hz : oTold f g T b what = (if what = 0 then g 3 b else if what = 1 then g 4 b else if what = 2 then g 5 b else if what = 3 then g 2 b else if what = 4 then g 1 b else if what = 5 then g 6 b else if what = 6 then g 7 b else if what = 7 then rowsI f g b else if what = 8 then hearI f g b else if what = 9 then b2i (WC f g T b (g 3 b) (f 10)) else owesI f g T b (f 10)) := by unfold oTold; rw [if_neg (fun z => z c5), if_neg (fun z => z c17)]
      refine j_iload_n (pc := 23) hK dX0_told_23 rfl ?_
      refine j_table (pc := 24) hK dX0_told_24 (by decide +kernel) (by decide +kernel) (fun cD24 => ?_) ⟨fun c24 => ?_, fun c24 => ?_, fun c24 => ?_, fun c24 => ?_, fun c24 => ?_, fun c24 => ?_, fun c24 => ?_, trivial⟩
      · have n24_4 := cD24 4 (by decide) (by decide)
        have n24_5 := cD24 5 (by decide) (by decide)
        have n24_6 := cD24 6 (by decide) (by decide)
        have n24_7 := cD24 7 (by decide) (by decide)
        have n24_8 := cD24 8 (by decide) (by decide)
        have n24_9 := cD24 9 (by decide) (by decide)
        have n24_10 := cD24 10 (by decide) (by decide)
        clear cD24
        refine j_aload_n (pc := 148) hK dX0_told_148 rfl ?_
        refine j_iload_n (pc := 149) hK dX0_told_149 rfl ?_
        refine j_iload_n (pc := 150) hK dX0_told_150 rfl ?_
        refine j_callV (pc := 151) hK hQ (c_XtoldOf (fun _ w => w) _ hb hB) cal_X0_toldOf (xi_isC (fun _ w => w)) q190 dX0_told_151 rfl rfl (nle rfl) (nle rfl) (nle rfl) (nle rfl) (kr_i fun r151 => ?_) kx_i
        refine J.pre fun e151 => ?_
        subst e151
        exact j_iret (pc := 154) hK hQ (nle rfl) (nle rfl) dX0_told_154 (fun h w => ⟨_, rfl, (by rw [hz]; unfold tofI; rcases told_low c17 n24_4 n24_5 n24_6 n24_7 n24_8 n24_9 n24_10 with e | e | e | e <;> subst e <;> rfl), w⟩)
      · replace c24 : _ = (4 : Int32) := c24
        subst c24
        refine j_aload_n (pc := 68) hK dX0_told_68 rfl ?_
        refine xi_getR (pc := 69) (k := 0) hK (fun _ w => w) (by decide) rfl q747 rfl dX0_told_69 ?_
        refine j_iload_n (pc := 72) hK dX0_told_72 rfl ?_
        refine xi_baldB (pc := 73) hK (fun _ w => w) hb dX0_told_73 ?_
        refine j_kind (pc := 74) hK hQ (xi_bta (fun _ w => w) hb hB) q207 dX0_told_74 (by decide) (Nat.le_refl _) (Nat.le_refl _) (by decide) ?_
        exact j_iret (pc := 77) hK hQ (nle rfl) (nle rfl) dX0_told_77 (fun h w => ⟨_, rfl, (by rw [kindB_eq hB]; exact hz.symm), w⟩)
      · replace c24 : _ = (5 : Int32) := c24
        subst c24
        refine j_aload_n (pc := 78) hK dX0_told_78 rfl ?_
        refine xi_getR (pc := 79) (k := 4) hK (fun _ w => w) (by decide) rfl q752 rfl dX0_told_79 ?_
        refine j_iload_n (pc := 82) hK dX0_told_82 rfl ?_
        refine xi_aldB (pc := 83) (k := 4) (n := 6) hK (fun _ w => w) (by decide) rfl rfl rfl rfl hb dX0_told_83 ?_
        exact j_iret (pc := 84) hK hQ (nle rfl) (nle rfl) dX0_told_84 (fun h w => ⟨_, rfl, hz.symm, w⟩)
      · replace c24 : _ = (6 : Int32) := c24
        subst c24
        refine j_aload_n (pc := 85) hK dX0_told_85 rfl ?_
        refine xi_getR (pc := 86) (k := 5) hK (fun _ w => w) (by decide) rfl q753 rfl dX0_told_86 ?_
        refine j_iload_n (pc := 89) hK dX0_told_89 rfl ?_
        refine xi_aldB (pc := 90) (k := 5) (n := 7) hK (fun _ w => w) (by decide) rfl rfl rfl rfl hb dX0_told_90 ?_
        exact j_iret (pc := 91) hK hQ (nle rfl) (nle rfl) dX0_told_91 (fun h w => ⟨_, rfl, hz.symm, w⟩)
      · replace c24 : _ = (7 : Int32) := c24
        subst c24
        refine j_aload_n (pc := 92) hK dX0_told_92 rfl ?_
        refine xi_getR (pc := 93) (k := 0) hK (fun _ w => w) (by decide) rfl q747 rfl dX0_told_93 ?_
        refine j_iload_n (pc := 96) hK dX0_told_96 rfl ?_
        refine xi_baldB (pc := 97) hK (fun _ w => w) hb dX0_told_97 ?_
        refine j_aload_n (pc := 98) hK dX0_told_98 rfl ?_
        refine xi_getR (pc := 99) (k := 7) hK (fun _ w => w) (by decide) rfl q756 rfl dX0_told_99 ?_
        refine j_iconst (pc := 102) (v := 1) hK dX0_told_102 (by decide) ?_
        refine xi_aldL (pc := 103) (i := 1) (n := 9) hK (fun _ w => w) (by decide) rfl (by decide) dX0_told_103 ?_
        refine j_callV (pc := 104) hK hQ (c_BX9_heldRows (xi_bta (fun _ w => w) hb hB) _) (calB_heldRows (InvB.k5 hB)) (xi_bta (fun _ w => w) hb hB).isC q232 dX0_told_104 rfl rfl (nle rfl) (nle rfl) (nle rfl) (nle rfl) (kr_i fun r104 => ?_) kx_i
        refine J.pre fun e104 => ?_
        rw [rowB_eq hN hB] at e104
        subst e104
        exact j_iret (pc := 107) hK hQ (nle rfl) (nle rfl) dX0_told_107 (fun h w => ⟨_, rfl, hz.symm, w⟩)
      · replace c24 : _ = (8 : Int32) := c24
        subst c24
        refine j_aload_n (pc := 108) hK dX0_told_108 rfl ?_
        refine xi_getR (pc := 109) (k := 0) hK (fun _ w => w) (by decide) rfl q747 rfl dX0_told_109 ?_
        refine j_iload_n (pc := 112) hK dX0_told_112 rfl ?_
        refine xi_baldB (pc := 113) hK (fun _ w => w) hb dX0_told_113 ?_
        refine j_aload_n (pc := 114) hK dX0_told_114 rfl ?_
        refine xi_getR (pc := 115) (k := 7) hK (fun _ w => w) (by decide) rfl q756 rfl dX0_told_115 ?_
        refine j_iconst (pc := 118) (v := 1) hK dX0_told_118 (by decide) ?_
        refine xi_aldL (pc := 119) (i := 1) (n := 9) hK (fun _ w => w) (by decide) rfl (by decide) dX0_told_119 ?_
        refine j_callV (pc := 120) hK hQ (c_BX9_heldHears (xi_bta (fun _ w => w) hb hB) _) (calB_heldHears (InvB.k5 hB)) (xi_bta (fun _ w => w) hb hB).isC q267 dX0_told_120 rfl rfl (nle rfl) (nle rfl) (nle rfl) (nle rfl) (kr_i fun r120 => ?_) kx_i
        refine J.pre fun e120 => ?_
        rw [hearB_eq hN hB] at e120
        subst e120
        exact j_iret (pc := 123) hK hQ (nle rfl) (nle rfl) dX0_told_123 (fun h w => ⟨_, rfl, hz.symm, w⟩)
      · replace c24 : _ = (9 : Int32) := c24
        subst c24
        refine j_aload_n (pc := 124) hK dX0_told_124 rfl ?_
        refine j_iload_n (pc := 125) hK dX0_told_125 rfl ?_
        refine j_callV (pc := 126) hK hQ (c_XwouldCome hb hN hB ho) cal_X0_wouldCome (xi_isC (fun _ w => w)) q299 dX0_told_126 rfl rfl (nle rfl) (nle rfl) (nle rfl) (nle rfl) (kr_i fun r126 => ?_) kx_i
        refine J.pre fun e126 => ?_
        subst e126
        refine j_if_eq_b (pc := 129) (tgt := 136) hK dX0_told_129 (by decide) (fun c129 => ?_) (fun c129 => ?_)
        · refine j_iconst (pc := 136) (v := 0) hK dX0_told_136 (by decide) ?_
          exact j_iret (pc := 137) hK hQ (nle rfl) (nle rfl) dX0_told_137 (fun h w => ⟨_, rfl, (by rw [hz]; first | exact (b2i_t c129).symm | exact (b2i_f c129).symm), w⟩)
        · refine j_iconst (pc := 132) (v := 1) hK dX0_told_132 (by decide) ?_
          refine j_goto (pc := 133) (tgt := 137) hK dX0_told_133 (by decide) ?_
          exact j_iret (pc := 137) hK hQ (nle rfl) (nle rfl) dX0_told_137 (fun h w => ⟨_, rfl, (by rw [hz]; first | exact (b2i_t c129).symm | exact (b2i_f c129).symm), w⟩)
      · replace c24 : _ = (10 : Int32) := c24
        subst c24
        refine j_aload_n (pc := 138) hK dX0_told_138 rfl ?_
        refine j_iload_n (pc := 139) hK dX0_told_139 rfl ?_
        refine j_aload_n (pc := 140) hK dX0_told_140 rfl ?_
        refine xi_getF (pc := 141) (k := 8) (n := 10) hK (fun _ w => w) rfl rfl (by decide) rfl q758 rfl dX0_told_141 ?_
        refine j_callV (pc := 144) hK hQ (c_XowesAt hb hB ho (Int32.le_trans (by decide) hV.1.2.2.2.2.2.2.1) (Int32.le_trans hV.1.2.2.2.2.2.2.2.1 (by decide))) cal_X0_owesAt (xi_isC (fun _ w => w)) q343 dX0_told_144 rfl rfl (nle rfl) (nle rfl) (nle rfl) (nle rfl) (kr_i fun r144 => ?_) kx_i
        refine J.pre fun e144 => ?_
        subst e144
        exact j_iret (pc := 147) hK hQ (nle rfl) (nle rfl) dX0_told_147 (fun h w => ⟨_, rfl, hz.symm, w⟩)
    · have hz : oTold f g T b what = -2 := by unfold oTold; first | rw [if_pos c5] | rw [if_neg (fun z => z c5), if_pos c17]
      refine j_bipush (pc := 20) (v := (-2)) hK dX0_told_20 (by decide) ?_
      exact j_iret (pc := 22) hK hQ (nle rfl) (nle rfl) dX0_told_22 (fun h w => ⟨_, rfl, hz.symm, w⟩)
theorem c_Xforce {t : Int32} : Ct Γ A yX0_force wX0_force 3 0 0 [.ref (L 35), .int t] (XI Γ L f g T TT) (RI (XO Γ L T (oForce f g t))) := by
  refine Ct.of (cc := cX0_force) (nL := 3) (ret := (some .int)) (ls := [some (.ref (L 35)), some (.int t), none]) rfl rfl rfl (nle rfl) ?_
  intro K hK hQ
  refine j_aload_n (pc := 0) hK dX0_force_0 rfl ?_
  refine j_iload_n (pc := 1) hK dX0_force_1 rfl ?_
  refine j_callV (pc := 2) hK hQ (c_XisText (fun _ w => w) _) cal_X0_isText (xi_isC (fun _ w => w)) q861 dX0_force_2 rfl rfl (nle rfl) (nle rfl) (nle rfl) (nle rfl) (kr_i fun r2 => ?_) kx_i
  refine J.pre fun e2 => ?_
  subst e2
  refine j_if_ne_b (pc := 5) (tgt := 11) hK dX0_force_5 (by decide) (fun c5 => ?_) (fun c5 => ?_)
  · refine j_aload_n (pc := 11) hK dX0_force_11 rfl ?_
    refine xi_getF (pc := 12) (k := 24) (n := 18) hK (fun _ w => w) rfl rfl (by decide) rfl q775 rfl dX0_force_12 ?_
    refine j_ist2 (pc := 15) hK dX0_force_15 (by decide) rfl ?_
    refine j_aload_n (pc := 16) hK dX0_force_16 rfl ?_
    refine j_iload_n (pc := 17) hK dX0_force_17 rfl ?_
    refine xi_putF (pc := 18) (k := 24) (n := 18) hK (by decide) rfl (by decide) rfl (fun _ e => e) q775 rfl rfl rfl rfl dX0_force_18 ?_
    refine j_iload_n (pc := 21) hK dX0_force_21 rfl ?_
    exact j_iret (pc := 22) hK hQ (nle rfl) (nle rfl) dX0_force_22 (fun h w => ⟨_, rfl, _, _, by unfold oForce; first | rw [if_pos c5] | rw [if_neg (fun z => z c5)], w⟩)
  · refine j_bipush (pc := 8) (v := (-2)) hK dX0_force_8 (by decide) ?_
    exact j_iret (pc := 10) hK hQ (nle rfl) (nle rfl) dX0_force_10 (fun h w => ⟨_, rfl, _, _, by unfold oForce; first | rw [if_pos c5] | rw [if_neg (fun z => z c5)], w⟩)
theorem c_XmanyAre {s : Int32} {nb : Nat} (hn : nb ≤ 7) (e0 : f 0 = nI nb) : Ct Γ A yX0_manyAre wX0_manyAre 1 0 0 [.ref (L 35), .int s] (XI Γ L f g T TT) (RI fun r h => r = cntS g s nb ∧ XI Γ L f g T TT h) := by
  refine Ct.of (cc := cX0_manyAre) (nL := 4) (ret := (some .int)) (ls := [some (.ref (L 35)), some (.int s), none, none]) rfl rfl rfl (nle rfl) ?_
  intro K hK hQ
  have loop : ∀ (n i : Nat), i + n = nb → J Γ A K 4 [some (.ref (L 35)), some (.int s), some (.int (cntS g s i)), some (.int (nI i))] [] (XI Γ L f g T TT) 0 0 := by
    intro n
    induction n with
    | zero =>
      intro i hi
      refine j_iload_n (pc := 4) hK dX0_manyAre_4 rfl ?_
      refine j_aload_n (pc := 5) hK dX0_manyAre_5 rfl ?_
      refine xi_getF (pc := 6) (k := 6) (n := 0) hK (fun _ w => w) rfl rfl (by decide) rfl q754 rfl dX0_manyAre_6 ?_
      refine j_icmp_ge (pc := 9) (tgt := 36) hK dX0_manyAre_9 (by decide) (fun c9 => ?_) (fun c9 => absurd (by rw [e0]; exact nI_le (by omega) (by omega)) c9)
      refine j_iload_n (pc := 36) hK dX0_manyAre_36 rfl ?_
      exact j_iret (pc := 37) hK hQ (nle rfl) (nle rfl) dX0_manyAre_37 (fun h w => ⟨_, rfl, by rw [show i = nb by omega], w⟩)
    | succ n ih =>
      intro i hi
      have hb : Bo f (nI i) := bo_nI e0 (by omega) hn
      refine j_iload_n (pc := 4) hK dX0_manyAre_4 rfl ?_
      refine j_aload_n (pc := 5) hK dX0_manyAre_5 rfl ?_
      refine xi_getF (pc := 6) (k := 6) (n := 0) hK (fun _ w => w) rfl rfl (by decide) rfl q754 rfl dX0_manyAre_6 ?_
      refine j_icmp_ge (pc := 9) (tgt := 36) hK dX0_manyAre_9 (by decide) (fun c9 => absurd c9 (by rw [e0]; exact nI_ge (by omega) (by omega))) (fun c9 => ?_)
      refine j_iload_n (pc := 12) hK dX0_manyAre_12 rfl ?_
      refine j_aload_n (pc := 13) hK dX0_manyAre_13 rfl ?_
      refine xi_getR (pc := 14) (k := 4) hK (fun _ w => w) (by decide) rfl q752 rfl dX0_manyAre_14 ?_
      refine j_iload_n (pc := 17) hK dX0_manyAre_17 rfl ?_
      refine xi_aldB (pc := 18) (k := 4) (n := 6) hK (fun _ w => w) (by decide) rfl rfl rfl rfl hb dX0_manyAre_18 ?_
      refine j_iload_n (pc := 19) hK dX0_manyAre_19 rfl ?_
      refine j_icmp_ne (pc := 20) (tgt := 27) hK dX0_manyAre_20 (by decide) (fun c20 => ?_) (fun c20 => ?_)
      · refine j_iconst (pc := 27) (v := 0) hK dX0_manyAre_27 (by decide) ?_
        refine j_iadd (pc := 28) hK dX0_manyAre_28 ?_
        refine j_ist2 (pc := 29) hK dX0_manyAre_29 (by decide) rfl ?_
        refine j_iinc3 (pc := 30) (v := 1) hK dX0_manyAre_30 (by decide) rfl (by decide) ?_
        refine j_goto (pc := 33) (tgt := 4) hK dX0_manyAre_33 (by decide) ?_
        rw [nI_1]
        first | (rw [Int32.add_zero, show cntS g s i = cntS g s (i + 1) from (if_neg c20).symm]; exact ih (i + 1) (by omega)) | (rw [show cntS g s i + 1 = cntS g s (i + 1) from (if_pos c20).symm]; exact ih (i + 1) (by omega))
      · refine j_iconst (pc := 23) (v := 1) hK dX0_manyAre_23 (by decide) ?_
        refine j_goto (pc := 24) (tgt := 28) hK dX0_manyAre_24 (by decide) ?_
        refine j_iadd (pc := 28) hK dX0_manyAre_28 ?_
        refine j_ist2 (pc := 29) hK dX0_manyAre_29 (by decide) rfl ?_
        refine j_iinc3 (pc := 30) (v := 1) hK dX0_manyAre_30 (by decide) rfl (by decide) ?_
        refine j_goto (pc := 33) (tgt := 4) hK dX0_manyAre_33 (by decide) ?_
        rw [nI_1]
        first | (rw [Int32.add_zero, show cntS g s i = cntS g s (i + 1) from (if_neg c20).symm]; exact ih (i + 1) (by omega)) | (rw [show cntS g s i + 1 = cntS g s (i + 1) from (if_pos c20).symm]; exact ih (i + 1) (by omega))
  refine j_iconst (pc := 0) (v := 0) hK dX0_manyAre_0 (by decide) ?_
  refine j_ist2 (pc := 1) hK dX0_manyAre_1 (by decide) rfl ?_
  refine j_iconst (pc := 2) (v := 0) hK dX0_manyAre_2 (by decide) ?_
  refine j_ist3 (pc := 3) hK dX0_manyAre_3 (by decide) rfl ?_
  exact loop nb 0 (by omega)
theorem c_Xcount {what : Int32} {nb : Nat} (hn : nb ≤ 7) (e0 : f 0 = nI nb) : Ct Γ A yX0_count wX0_count 2 0 0 [.ref (L 35), .int what] (XI Γ L f g T TT) (RI fun r h => r = oCount f g nb what ∧ XI Γ L f g T TT h) := by
  refine Ct.of (cc := cX0_count) (nL := 2) (ret := (some .int)) (ls := [some (.ref (L 35)), some (.int what)]) rfl rfl rfl (nle rfl) ?_
  intro K hK hQ
  refine j_iload_n (pc := 0) hK dX0_count_0 rfl ?_
  refine j_table (pc := 1) hK dX0_count_1 (by decide +kernel) (by decide +kernel) (fun cD1 => ?_) ⟨fun c1 => ?_, fun c1 => ?_, fun c1 => ?_, fun c1 => ?_, fun c1 => ?_, fun c1 => ?_, fun c1 => ?_, fun c1 => ?_, fun c1 => ?_, fun c1 => ?_, trivial⟩
  · have n1_0 := cD1 0 (by decide) (by decide)
    have n1_1 := cD1 1 (by decide) (by decide)
    have n1_2 := cD1 2 (by decide) (by decide)
    have n1_3 := cD1 3 (by decide) (by decide)
    have n1_4 := cD1 4 (by decide) (by decide)
    have n1_5 := cD1 5 (by decide) (by decide)
    have n1_6 := cD1 6 (by decide) (by decide)
    have n1_7 := cD1 7 (by decide) (by decide)
    have n1_8 := cD1 8 (by decide) (by decide)
    have n1_9 := cD1 9 (by decide) (by decide)
    clear cD1
    refine j_bipush (pc := 101) (v := (-2)) hK dX0_count_101 (by decide) ?_
    exact j_iret (pc := 103) hK hQ (nle rfl) (nle rfl) dX0_count_103 (fun h w => ⟨_, rfl, (by unfold oCount; rw [if_neg n1_0, if_neg n1_1, if_neg n1_2, if_neg n1_3, if_neg n1_4, if_neg n1_5, if_neg n1_6, if_neg n1_7, if_neg n1_8, if_neg n1_9]), w⟩)
  · replace c1 : _ = (0 : Int32) := c1
    subst c1
    refine j_aload_n (pc := 56) hK dX0_count_56 rfl ?_
    refine xi_getF (pc := 57) (k := 6) (n := 0) hK (fun _ w => w) rfl rfl (by decide) rfl q754 rfl dX0_count_57 ?_
    exact j_iret (pc := 60) hK hQ (nle rfl) (nle rfl) dX0_count_60 (fun h w => ⟨_, rfl, rfl, w⟩)
  · replace c1 : _ = (1 : Int32) := c1
    subst c1
    refine j_aload_n (pc := 61) hK dX0_count_61 rfl ?_
    refine j_iload_n (pc := 62) hK dX0_count_62 rfl ?_
    refine j_iconst (pc := 63) (v := 1) hK dX0_count_63 (by decide) ?_
    refine j_isub (pc := 64) hK dX0_count_64 ?_
    refine j_callV (pc := 65) hK hQ (c_XmanyAre hn e0) cal_X0_manyAre (xi_isC (fun _ w => w)) q1035 dX0_count_65 rfl rfl (nle rfl) (nle rfl) (nle rfl) (nle rfl) (kr_i fun r65 => ?_) kx_i
    refine J.pre fun e65 => ?_
    subst e65
    exact j_iret (pc := 68) hK hQ (nle rfl) (nle rfl) dX0_count_68 (fun h w => ⟨_, rfl, rfl, w⟩)
  · replace c1 : _ = (2 : Int32) := c1
    subst c1
    refine j_aload_n (pc := 61) hK dX0_count_61 rfl ?_
    refine j_iload_n (pc := 62) hK dX0_count_62 rfl ?_
    refine j_iconst (pc := 63) (v := 1) hK dX0_count_63 (by decide) ?_
    refine j_isub (pc := 64) hK dX0_count_64 ?_
    refine j_callV (pc := 65) hK hQ (c_XmanyAre hn e0) cal_X0_manyAre (xi_isC (fun _ w => w)) q1035 dX0_count_65 rfl rfl (nle rfl) (nle rfl) (nle rfl) (nle rfl) (kr_i fun r65 => ?_) kx_i
    refine J.pre fun e65 => ?_
    subst e65
    exact j_iret (pc := 68) hK hQ (nle rfl) (nle rfl) dX0_count_68 (fun h w => ⟨_, rfl, rfl, w⟩)
  · replace c1 : _ = (3 : Int32) := c1
    subst c1
    refine j_aload_n (pc := 61) hK dX0_count_61 rfl ?_
    refine j_iload_n (pc := 62) hK dX0_count_62 rfl ?_
    refine j_iconst (pc := 63) (v := 1) hK dX0_count_63 (by decide) ?_
    refine j_isub (pc := 64) hK dX0_count_64 ?_
    refine j_callV (pc := 65) hK hQ (c_XmanyAre hn e0) cal_X0_manyAre (xi_isC (fun _ w => w)) q1035 dX0_count_65 rfl rfl (nle rfl) (nle rfl) (nle rfl) (nle rfl) (kr_i fun r65 => ?_) kx_i
    refine J.pre fun e65 => ?_
    subst e65
    exact j_iret (pc := 68) hK hQ (nle rfl) (nle rfl) dX0_count_68 (fun h w => ⟨_, rfl, rfl, w⟩)
  · replace c1 : _ = (4 : Int32) := c1
    subst c1
    refine j_aload_n (pc := 69) hK dX0_count_69 rfl ?_
    refine xi_getF (pc := 70) (k := 8) (n := 10) hK (fun _ w => w) rfl rfl (by decide) rfl q758 rfl dX0_count_70 ?_
    exact j_iret (pc := 73) hK hQ (nle rfl) (nle rfl) dX0_count_73 (fun h w => ⟨_, rfl, rfl, w⟩)
  · replace c1 : _ = (5 : Int32) := c1
    subst c1
    refine j_aload_n (pc := 74) hK dX0_count_74 rfl ?_
    refine xi_getF (pc := 75) (k := 9) (n := 14) hK (fun _ w => w) rfl rfl (by decide) rfl q759 rfl dX0_count_75 ?_
    exact j_iret (pc := 78) hK hQ (nle rfl) (nle rfl) dX0_count_78 (fun h w => ⟨_, rfl, rfl, w⟩)
  · replace c1 : _ = (6 : Int32) := c1
    subst c1
    refine j_aload_n (pc := 79) hK dX0_count_79 rfl ?_
    refine xi_getR (pc := 80) (k := 7) hK (fun _ w => w) (by decide) rfl q756 rfl dX0_count_80 ?_
    refine j_iconst (pc := 83) (v := 4) hK dX0_count_83 (by decide) ?_
    refine xi_aldL (pc := 84) (i := 4) (n := 13) hK (fun _ w => w) (by decide) rfl (by decide) dX0_count_84 ?_
    exact j_iret (pc := 85) hK hQ (nle rfl) (nle rfl) dX0_count_85 (fun h w => ⟨_, rfl, rfl, w⟩)
  · replace c1 : _ = (7 : Int32) := c1
    subst c1
    refine j_aload_n (pc := 86) hK dX0_count_86 rfl ?_
    refine xi_getF (pc := 87) (k := 13) (n := 17) hK (fun _ w => w) rfl rfl (by decide) rfl q764 rfl dX0_count_87 ?_
    exact j_iret (pc := 90) hK hQ (nle rfl) (nle rfl) dX0_count_90 (fun h w => ⟨_, rfl, rfl, w⟩)
  · replace c1 : _ = (8 : Int32) := c1
    subst c1
    refine j_aload_n (pc := 91) hK dX0_count_91 rfl ?_
    refine xi_getF (pc := 92) (k := 17) (n := 15) hK (fun _ w => w) rfl rfl (by decide) rfl q768 rfl dX0_count_92 ?_
    exact j_iret (pc := 95) hK hQ (nle rfl) (nle rfl) dX0_count_95 (fun h w => ⟨_, rfl, rfl, w⟩)
  · replace c1 : _ = (9 : Int32) := c1
    subst c1
    refine j_aload_n (pc := 96) hK dX0_count_96 rfl ?_
    refine xi_getF (pc := 97) (k := 24) (n := 18) hK (fun _ w => w) rfl rfl (by decide) rfl q775 rfl dX0_count_97 ?_
    exact j_iret (pc := 100) hK hQ (nle rfl) (nle rfl) dX0_count_100 (fun h w => ⟨_, rfl, rfl, w⟩)
end X59
