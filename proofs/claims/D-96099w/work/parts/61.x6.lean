/-! the class: where, drawn, chance -/
set_option maxRecDepth 100000
theorem or_bit : ∀ i, i < 7 → ∀ a, a < 2 ^ i → nI a ||| nI (2 ^ i) = nI (a + 2 ^ i) := by decide +kernel
theorem and_not : ∀ a, a < 128 → ∀ b, b < 128 → nI a &&& (nI b ^^^ (-1)) = nI (a &&& (127 ^^^ b)) := by decide +kernel
theorem st_1 : ∀ i, i < 7 → ∀ a, a < 2 ^ i → ∀ b, b < 2 ^ i → (a + 2 ^ i) &&& (127 ^^^ b) = (a &&& (127 ^^^ b)) + 2 ^ i := by decide +kernel
theorem st_2 : ∀ i, i < 7 → ∀ a, a < 2 ^ i → ∀ b, b < 2 ^ i → (a + 2 ^ i) &&& (127 ^^^ (b + 2 ^ i)) = a &&& (127 ^^^ b) := by decide +kernel
theorem pc_bit : ∀ i, i < 7 → ∀ c, c < 2 ^ i → pc7 (c + 2 ^ i) = pc7 c + 1 := by decide +kernel
theorem p_le {i : Nat} (h : i ≤ 7) : 2 ^ i ≤ 128 := (pow_128 h).1
section P61
variable {f : Nat → Int32} {g : Nat → Int32 → Int32} {T : TX}
def lakN (g : Nat → Int32 → Int32) : Nat → Nat
  | 0 => 0
  | i + 1 => if g 6 (nI i) = 0 then lakN g i + 2 ^ i else lakN g i
def nobN (f : Nat → Int32) (g : Nat → Int32 → Int32) (T : TX) : Nat → Nat
  | 0 => 0
  | i + 1 => if g 6 (nI i) = 0 ∧ ¬ WC f g T (nI i) (g 3 (nI i)) (f 10) then nobN f g T i + 2 ^ i else nobN f g T i
theorem lakS_N : ∀ i, i ≤ 7 → lakS g i = nI (lakN g i) ∧ lakN g i < 2 ^ i := by
  intro i
  induction i with
  | zero => intro _; exact ⟨rfl, Nat.one_pos⟩
  | succ i ih =>
    intro h
    obtain ⟨e, l⟩ := ih (by omega)
    have hp : 2 ^ (i + 1) = 2 ^ i + 2 ^ i := by rw [Nat.pow_succ]; omega
    unfold lakS lakN
    by_cases c : g 6 (nI i) = 0
    · rw [if_pos c, if_pos c, e, shl_i i (by omega), or_bit i (by omega) _ l]
      exact ⟨rfl, by omega⟩
    · rw [if_neg c, if_neg c]
      exact ⟨e, by omega⟩
theorem nobS_N : ∀ i, i ≤ 7 → nobS f g T i = nI (nobN f g T i) ∧ nobN f g T i < 2 ^ i := by
  intro i
  induction i with
  | zero => intro _; exact ⟨rfl, Nat.one_pos⟩
  | succ i ih =>
    intro h
    obtain ⟨e, l⟩ := ih (by omega)
    have hp : 2 ^ (i + 1) = 2 ^ i + 2 ^ i := by rw [Nat.pow_succ]; omega
    unfold nobS nobN
    by_cases c : g 6 (nI i) = 0 ∧ ¬ WC f g T (nI i) (g 3 (nI i)) (f 10)
    · rw [if_pos c, if_pos c, e, shl_i i (by omega), or_bit i (by omega) _ l]
      exact ⟨rfl, by omega⟩
    · rw [if_neg c, if_neg c]
      exact ⟨e, by omega⟩
theorem come_cnt : ∀ i, i ≤ 7 → nI (pc7 (lakN g i &&& (127 ^^^ nobN f g T i))) = cntW f g T i := by
  intro i
  induction i with
  | zero => intro _; show nI (pc7 (0 &&& (127 ^^^ 0))) = 0; decide
  | succ i ih =>
    intro h
    have l1 := (lakS_N (g := g) i (by omega)).2
    have l2 := (nobS_N (f := f) (g := g) (T := T) i (by omega)).2
    have e := ih (by omega)
    by_cases c : g 6 (nI i) = 0
    · by_cases c2 : WC f g T (nI i) (g 3 (nI i)) (f 10)
      · have a1 : lakN g (i + 1) = lakN g i + 2 ^ i := if_pos c
        have a2 : nobN f g T (i + 1) = nobN f g T i := if_neg (fun z => z.2 c2)
        rw [cntW_p c c2, a1, a2, st_1 i (by omega) _ l1 _ l2, pc_bit i (by omega) _ (Nat.lt_of_le_of_lt Nat.and_le_left l1), ← e, ← nI_1]
      · have a1 : lakN g (i + 1) = lakN g i + 2 ^ i := if_pos c
        have a2 : nobN f g T (i + 1) = nobN f g T i + 2 ^ i := if_pos ⟨c, c2⟩
        rw [cntW_n2 c2, a1, a2, st_2 i (by omega) _ l1 _ l2]
        exact e
    · have a1 : lakN g (i + 1) = lakN g i := if_neg c
      have a2 : nobN f g T (i + 1) = nobN f g T i := if_neg (fun z => c z.1)
      rw [cntW_n1 c, a1, a2]
      exact e
theorem lak_cnt : ∀ i, i ≤ 7 → nI (pc7 (lakN g i)) = cntS g 0 i := by
  intro i
  induction i with
  | zero => intro _; show nI (pc7 0) = 0; decide
  | succ i ih =>
    intro h
    have l1 := (lakS_N (g := g) i (by omega)).2
    have e := ih (by omega)
    by_cases c : g 6 (nI i) = 0
    · have a1 : lakN g (i + 1) = lakN g i + 2 ^ i := if_pos c
      rw [cntS_y c, a1, pc_bit i (by omega) _ l1, ← e, ← nI_1]
    · have a1 : lakN g (i + 1) = lakN g i := if_neg c
      rw [cntS_n c, a1]
      exact e
theorem drawn_eq {n : Nat} (hn : n ≤ 7) : bcI (lakS g n &&& (nobS f g T n ^^^ (-1))) = cntW f g T n := by
  obtain ⟨e1, l1⟩ := lakS_N (g := g) n hn
  obtain ⟨e2, l2⟩ := nobS_N (f := f) (g := g) (T := T) n hn
  have := p_le hn
  rw [e1, e2, and_not _ (by omega) _ (by omega), bc_pc _ (Nat.lt_of_le_of_lt Nat.and_le_left (by omega)), come_cnt n hn]
theorem lake_eq {n : Nat} (hn : n ≤ 7) : bcI (lakS g n) = cntS g 0 n := by
  obtain ⟨e1, l1⟩ := lakS_N (g := g) n hn
  have := p_le hn
  rw [e1, bc_pc _ (by omega), lak_cnt n hn]
theorem wind_bd (seed : Int32) : 0 ≤ windI seed ∧ windI seed ≤ 9 := by
  unfold windI
  generalize seed * 1103515245 + 12345 = z
  have h1 : ((z.toUInt32 >>> ((10 : Int32).toUInt32 &&& Int32.toUInt32 31)).toNat) < 2 ^ 22 := by
    rw [UInt32.toNat_shiftRight]
    have := z.toUInt32.toNat_lt
    rw [show ((10 : Int32).toUInt32 &&& Int32.toUInt32 31).toNat % 32 = 10 by decide, Nat.shiftRight_eq_div_pow]
    omega
  generalize (z.toUInt32 >>> ((10 : Int32).toUInt32 &&& Int32.toUInt32 31)) = u at h1
  have e : u.toInt32 = nI u.toNat := by
    unfold nI
    rw [← UInt32.toInt32_ofNat', UInt32.ofNat_toNat]
  rw [e, show (10 : Int32) = nI 10 by decide, nI_rem (by omega) (by decide) (by decide)]
  exact ⟨Int32.not_lt.mp (nI_pos (by omega)), nI_le (b := 9) (by omega) (by decide)⟩
theorem hearI_g {b c : Int32} : hearI f (ug g 3 b c) b = hearI f g b := by
  unfold hearI
  rw [ug_k g b c (show (1 : Nat) ≠ 3 by decide), ug_k g b c (show (2 : Nat) ≠ 3 by decide)]
theorem nmF_g {b c c' m : Int32} : nmF f (ug g 3 b c) b c' m = nmF f g b c' m := by
  unfold nmF
  rw [ug_k g b c (show (4 : Nat) ≠ 3 by decide), ug_k g b c (show (5 : Nat) ≠ 3 by decide)]
theorem wc_g {b c m : Int32} : b2i (WC f (ug g 3 b c) T b (ug g 3 b c 3 b) m) = b2i (WC f g T b c m) := by
  apply b2i_eq
  unfold WC ruleI
  rw [hearI_g, nmF_g, ug_s]
theorem ug_back {k : Nat} {b c : Int32} : ug (ug g k b c) k b (g k b) = g := by
  funext k' j
  unfold ug
  by_cases h : k' = k ∧ j = b
  · rw [if_pos h, h.1, h.2]
  · rw [if_neg h, if_neg h]
end P61
section X61
variable {Γ : Gam} {A : Nat → Prop} {L : Nat → Nat} {f : Nat → Int32} {g : Nat → Int32 → Int32} {T : TX} {P : PH → Prop}
theorem c_XwouldComeC {b c : Int32} (hb : Bo f b) (hN : InvW f) (hB : InvB g b) (ho : OkR f T) (hc : 0 ≤ c ∧ c ≤ 47) : Ct Γ A yX0_wouldCome wX0_wouldCome 173 0 0 [.ref (L 35), .int b] (XI Γ L f (ug g 3 b c) T TT) (RI fun r h => r = b2i (WC f g T b c (f 10)) ∧ XI Γ L f (ug g 3 b c) T TT h) := by
  have := c_XwouldCome (Γ := Γ) (A := A) (L := L) (f := f) (g := ug g 3 b c) (T := T) hb hN (hB.up (by right; left; exact ⟨rfl, hc⟩)) ho
  rw [wc_g] at this
  exact this
theorem c_XwouldComeFrom {b c : Int32} (hb : Bo f b) (h7 : f 0 ≤ 7) (hN : InvW f) (hB : InvB g b) (ho : OkR f T) (hc : 0 ≤ c ∧ c ≤ 47) : Ct Γ A yX0_wouldComeFrom wX0_wouldComeFrom 174 0 0 [.ref (L 35), .int b, .int c] (XI Γ L f g T TT) (RI fun r h => r = b2i (WC f g T b c (f 10)) ∧ XI Γ L f g T TT h) := by
  refine Ct.ofW (cc := cX0_wouldComeFrom) (nL := 6) (ret := (some .boolean)) (hh := hX0_wouldComeFrom) (ls := [some (.ref (L 35)), some (.int b), some (.int c), none, none, none]) rfl rfl rfl (nle rfl) ?_
  intro K hK hQ
  refine j_aload_n (pc := 0) hK dX0_wouldComeFrom_0 rfl ?_
  refine xi_getR (pc := 1) (k := 1) hK (fun _ w => w) (by decide) rfl q749 rfl dX0_wouldComeFrom_1 ?_
  refine j_iload_n (pc := 4) hK dX0_wouldComeFrom_4 rfl ?_
  refine xi_aldB (pc := 5) (k := 1) (n := 3) hK (fun _ w => w) (by decide) rfl rfl rfl rfl hb dX0_wouldComeFrom_5 ?_
  refine j_ist3 (pc := 6) hK dX0_wouldComeFrom_6 (by decide) rfl ?_
  refine j_aload_n (pc := 7) hK dX0_wouldComeFrom_7 rfl ?_
  refine xi_getR (pc := 8) (k := 1) hK (fun _ w => w) (by decide) rfl q749 rfl dX0_wouldComeFrom_8 ?_
  refine j_iload_n (pc := 11) hK dX0_wouldComeFrom_11 rfl ?_
  refine j_iload_n (pc := 12) hK dX0_wouldComeFrom_12 rfl ?_
  refine xi_astB (pc := 13) (k := 1) (n := 3) hK (by decide) rfl rfl rfl hb (hb.in7 h7) (fun _ e => e) dX0_wouldComeFrom_13 ?_
  refine j_aload_n (pc := 14) hK dX0_wouldComeFrom_14 rfl ?_
  refine j_iload_n (pc := 15) hK dX0_wouldComeFrom_15 rfl ?_
  refine j_callV (pc := 16) hK hQ (c_XwouldComeC hb hN hB ho hc) cal_X0_wouldCome (xi_isC (fun _ w => w)) q299 dX0_wouldComeFrom_16 rfl rfl (nle rfl) (nle rfl) (nle rfl) (nle rfl) (kr_i fun r16 => ?_) kx_i
  refine J.pre fun e16 => ?_
  subst e16
  refine j_ist4 (pc := 19) hK dX0_wouldComeFrom_19 (by decide) rfl ?_
  refine j_aload_n (pc := 21) hK dX0_wouldComeFrom_21 rfl ?_
  refine xi_getR (pc := 22) (k := 1) hK (fun _ w => w) (by decide) rfl q749 rfl dX0_wouldComeFrom_22 ?_
  refine j_iload_n (pc := 25) hK dX0_wouldComeFrom_25 rfl ?_
  refine j_iload_n (pc := 26) hK dX0_wouldComeFrom_26 rfl ?_
  refine xi_astB (pc := 27) (k := 1) (n := 3) hK (by decide) rfl rfl rfl hb (hb.in7 h7) (fun _ e => e) dX0_wouldComeFrom_27 ?_
  rw [ug_back]
  refine j_iload (pc := 28) hK dX0_wouldComeFrom_28 rfl ?_
  exact j_bret (pc := 30) hK hQ (nle rfl) (nle rfl) dX0_wouldComeFrom_30 (fun h w => ⟨by unfold b2i; split <;> simp, _, rfl, rfl, w⟩)
theorem c_Xwhere {b y : Int32} (hV : XV f g T) : Ct Γ A yX0_where wX0_where 175 0 0 [.ref (L 35), .int b, .int y] (XI Γ L f g T TT) (RI fun r h => r = oWhere f g T b y ∧ XI Γ L f g T TT h) := by
  have hN := hV.1.w
  have ho := hV.2.2
  refine Ct.of (cc := cX0_where) (nL := 5) (ret := (some .int)) (ls := [some (.ref (L 35)), some (.int b), some (.int y), none, none]) rfl rfl rfl (nle rfl) ?_
  intro K hK hQ
  have loop : ∀ (hb : Bo f b) (hy : 0 ≤ y ∧ y ≤ 5), oWhere f g T b y = whL f g T b y 8 → ∀ (r i : Nat), i + r = 8 → J Γ A K 28 [some (.ref (L 35)), some (.int b), some (.int y), some (.int (whL f g T b y i)), some (.int (nI i))] [] (XI Γ L f g T TT) 0 0 := by
    intro hb hy hz r
    have hB := hV.2.1 b hb
    induction r with
    | zero =>
      intro i hi
      have : i = 8 := by omega
      subst this
      refine j_iload (pc := 28) hK dX0_where_28 rfl ?_
      refine j_bipush (pc := 30) (v := 8) hK dX0_where_30 (by decide) ?_
      refine j_icmp_ge (pc := 32) (tgt := 67) hK dX0_where_32 (by decide) (fun c32 => ?_) (fun c32 => absurd (by decide) c32)
      refine j_iload_n (pc := 67) hK dX0_where_67 rfl ?_
      exact j_iret (pc := 68) hK hQ (nle rfl) (nle rfl) dX0_where_68 (fun h w => ⟨_, rfl, hz.symm, w⟩)
    | succ r ih =>
      intro i hi
      have hc : 0 ≤ 8 * y + nI i ∧ 8 * y + nI i ≤ 47 := by
        obtain ⟨n, hn, en⟩ := nI_of2 (M := 5) (n := 5) (by decide) (Int32.not_lt.mpr hy.1) hy.2
        rw [en, show (8 : Int32) = nI 8 by decide, nI_mul, nI_add]
        exact ⟨Int32.not_lt.mp (nI_pos (by omega)), nI_le (b := 47) (by omega) (by decide)⟩
      refine j_iload (pc := 28) hK dX0_where_28 rfl ?_
      refine j_bipush (pc := 30) (v := 8) hK dX0_where_30 (by decide) ?_
      refine j_icmp_ge (pc := 32) (tgt := 67) hK dX0_where_32 (by decide) (fun c32 => absurd c32 (by rw [show (8 : Int32) = nI 8 by decide]; exact nI_ge (by omega) (by decide))) (fun c32 => ?_)
      refine j_iload_n (pc := 35) hK dX0_where_35 rfl ?_
      refine j_aload_n (pc := 36) hK dX0_where_36 rfl ?_
      refine j_iload_n (pc := 37) hK dX0_where_37 rfl ?_
      refine j_bipush (pc := 38) (v := 8) hK dX0_where_38 (by decide) ?_
      refine j_iload_n (pc := 40) hK dX0_where_40 rfl ?_
      refine j_imul (pc := 41) hK dX0_where_41 ?_
      refine j_iload (pc := 42) hK dX0_where_42 rfl ?_
      refine j_iadd (pc := 44) hK dX0_where_44 ?_
      refine j_callV (pc := 45) hK hQ (c_XwouldComeFrom hb hV.1.2.1 hN hB ho hc) cal_X0_wouldComeFrom (xi_isC (fun _ w => w)) q1007 dX0_where_45 rfl rfl (nle rfl) (nle rfl) (nle rfl) (nle rfl) (kr_i fun r45 => ?_) kx_i
      refine J.pre fun e45 => ?_
      subst e45
      refine j_if_eq_b (pc := 48) (tgt := 58) hK dX0_where_48 (by decide) (fun c48 => ?_) (fun c48 => ?_)
      · refine j_iconst (pc := 58) (v := 0) hK dX0_where_58 (by decide) ?_
        refine j_ior (pc := 59) hK dX0_where_59 ?_
        refine j_ist3 (pc := 60) hK dX0_where_60 (by decide) rfl ?_
        refine j_iinc4 (pc := 61) (v := 1) hK dX0_where_61 (by decide) rfl (by decide) ?_
        refine j_goto (pc := 64) (tgt := 28) hK dX0_where_64 (by decide) ?_
        rw [nI_1]
        first | (rw [Int32.or_zero, ← whL_f c48]; exact ih (i + 1) (by omega)) | (rw [← whL_t c48]; exact ih (i + 1) (by omega))
      · refine j_iconst (pc := 51) (v := 1) hK dX0_where_51 (by decide) ?_
        refine j_iload (pc := 52) hK dX0_where_52 rfl ?_
        refine j_ishl (pc := 54) hK dX0_where_54 ?_
        refine j_goto (pc := 55) (tgt := 59) hK dX0_where_55 (by decide) ?_
        refine j_ior (pc := 59) hK dX0_where_59 ?_
        refine j_ist3 (pc := 60) hK dX0_where_60 (by decide) rfl ?_
        refine j_iinc4 (pc := 61) (v := 1) hK dX0_where_61 (by decide) rfl (by decide) ?_
        refine j_goto (pc := 64) (tgt := 28) hK dX0_where_64 (by decide) ?_
        rw [nI_1]
        first | (rw [Int32.or_zero, ← whL_f c48]; exact ih (i + 1) (by omega)) | (rw [← whL_t c48]; exact ih (i + 1) (by omega))
  refine j_aload_n (pc := 0) hK dX0_where_0 rfl ?_
  refine j_iload_n (pc := 1) hK dX0_where_1 rfl ?_
  refine j_callV (pc := 2) hK hQ (c_XisBoat (fun _ w => w) _) cal_X0_isBoat (xi_isC (fun _ w => w)) q186 dX0_where_2 rfl rfl (nle rfl) (nle rfl) (nle rfl) (nle rfl) (kr_i fun r2 => ?_) kx_i
  refine J.pre fun e2 => ?_
  subst e2
  refine j_if_eq_b (pc := 5) (tgt := 20) hK dX0_where_5 (by decide) (fun c5 => ?_) (fun c5 => ?_)
  · refine j_bipush (pc := 20) (v := (-2)) hK dX0_where_20 (by decide) ?_
    exact j_iret (pc := 22) hK hQ (nle rfl) (nle rfl) dX0_where_22 (fun h w => ⟨_, rfl, (by unfold oWhere; first | exact (if_pos c5).symm | exact ((if_neg (fun z => z c5)).trans (if_pos c17)).symm), w⟩)
  · refine j_iload_n (pc := 8) hK dX0_where_8 rfl ?_
    refine j_i2l (pc := 9) hK dX0_where_9 ?_
    refine j_lconst (pc := 10) (v := 0) hK dX0_where_10 (by decide) ?_
    refine j_ldc2 (pc := 11) hK q105 dX0_where_11 ?_
    refine j_callS (pc := 14) hK hQ (c_Xin (l := 0) (u := 5) (by decide) (by decide)) cal_X0_in q106 dX0_where_14 rfl rfl (nle rfl) (nle rfl) (nle rfl) (nle rfl) (kr_i fun r14 => ?_) kx_i
    refine J.pre fun e14 => ?_
    subst e14
    refine j_if_ne_b (pc := 17) (tgt := 23) hK dX0_where_17 (by decide) (fun c17 => ?_) (fun c17 => ?_)
    · refine j_iconst (pc := 23) (v := 0) hK dX0_where_23 (by decide) ?_
      refine j_ist3 (pc := 24) hK dX0_where_24 (by decide) rfl ?_
      refine j_iconst (pc := 25) (v := 0) hK dX0_where_25 (by decide) ?_
      refine j_ist4 (pc := 26) hK dX0_where_26 (by decide) rfl ?_
      exact loop (bo_of c5 hV.1) c17 (by unfold oWhere; exact (if_neg (fun z => z c5)).trans (if_neg (fun z => z c17))) 8 0 (by omega)
    · refine j_bipush (pc := 20) (v := (-2)) hK dX0_where_20 (by decide) ?_
      exact j_iret (pc := 22) hK hQ (nle rfl) (nle rfl) dX0_where_22 (fun h w => ⟨_, rfl, (by unfold oWhere; first | exact (if_pos c5).symm | exact ((if_neg (fun z => z c5)).trans (if_pos c17)).symm), w⟩)
theorem c_Xdrawn {seed : Int32} {nb : Nat} (hn : nb ≤ 7) (e0 : f 0 = nI nb) (hV : XV f g T) : Ct Γ A yX0_drawn wX0_drawn 176 0 0 [.ref (L 35), .int seed] (XI Γ L f g T TT) (RI fun r h => r = oDrawn f g T nb seed ∧ XI Γ L f g T TT h) := by
  have hV' : XV (upd f 9 (windI seed)) g T := hV.upd (by right; left; exact ⟨rfl, wind_bd seed⟩)
  refine Ct.ofW (cc := cX0_drawn) (nL := 6) (ret := (some .int)) (hh := hX0_drawn) (ls := [some (.ref (L 35)), some (.int seed), none, none, none, none]) rfl rfl rfl (nle rfl) ?_
  intro K hK hQ
  refine j_iload_n (pc := 0) hK dX0_drawn_0 rfl ?_
  refine j_ldcw (pc := 1) hK q1015 dX0_drawn_1 ?_
  refine j_imul (pc := 4) hK dX0_drawn_4 ?_
  refine j_sipush (pc := 5) (v := 12345) hK dX0_drawn_5 (by decide) ?_
  refine j_iadd (pc := 8) hK dX0_drawn_8 ?_
  refine j_ist2 (pc := 9) hK dX0_drawn_9 (by decide) rfl ?_
  refine j_aload_n (pc := 10) hK dX0_drawn_10 rfl ?_
  refine xi_getR (pc := 11) (k := 7) hK (fun _ w => w) (by decide) rfl q756 rfl dX0_drawn_11 ?_
  refine j_iconst (pc := 14) (v := 1) hK dX0_drawn_14 (by decide) ?_
  refine xi_aldL (pc := 15) (i := 1) (n := 9) hK (fun _ w => w) (by decide) rfl (by decide) dX0_drawn_15 ?_
  refine j_ist3 (pc := 16) hK dX0_drawn_16 (by decide) rfl ?_
  refine j_aload_n (pc := 17) hK dX0_drawn_17 rfl ?_
  refine xi_getR (pc := 18) (k := 7) hK (fun _ w => w) (by decide) rfl q756 rfl dX0_drawn_18 ?_
  refine j_iconst (pc := 21) (v := 1) hK dX0_drawn_21 (by decide) ?_
  refine j_iload_n (pc := 22) hK dX0_drawn_22 rfl ?_
  refine j_bipush (pc := 23) (v := 10) hK dX0_drawn_23 (by decide) ?_
  refine j_iushr (pc := 25) hK dX0_drawn_25 ?_
  refine j_bipush (pc := 26) (v := 10) hK dX0_drawn_26 (by decide) ?_
  refine j_irem (pc := 28) hK dX0_drawn_28 (by decide) ?_
  refine xi_astL (pc := 29) (i := 1) (n := 9) hK (by decide) rfl (by decide) (fun _ e => e) dX0_drawn_29 ?_
  refine j_aload_n (pc := 30) hK dX0_drawn_30 rfl ?_
  refine j_callV (pc := 31) hK hQ (c_XonLake hn (show upd f 9 (windI seed) 0 = nI nb from e0)) cal_X0_onLake (xi_isC (fun _ w => w)) q913 dX0_drawn_31 rfl rfl (nle rfl) (nle rfl) (nle rfl) (nle rfl) (kr_i fun r31 => ?_) kx_i
  refine J.pre fun e31 => ?_
  subst e31
  refine j_aload_n (pc := 34) hK dX0_drawn_34 rfl ?_
  refine j_callV (pc := 35) hK hQ (c_Xnobody hn (show upd f 9 (windI seed) 0 = nI nb from e0) hV') cal_X0_nobody (xi_isC (fun _ w => w)) q951 dX0_drawn_35 rfl rfl (nle rfl) (nle rfl) (nle rfl) (nle rfl) (kr_i fun r35 => ?_) kx_i
  refine J.pre fun e35 => ?_
  subst e35
  refine j_iconst (pc := 38) (v := (-1)) hK dX0_drawn_38 (by decide) ?_
  refine j_ixor (pc := 39) hK dX0_drawn_39 ?_
  refine j_iand (pc := 40) hK dX0_drawn_40 ?_
  refine j_callS (pc := 41) hK hQ (c_bitCount _) cal_J9_bitCount q922 dX0_drawn_41 rfl rfl (nle rfl) (nle rfl) (nle rfl) (nle rfl) (kr_i fun r41 => ?_) kx_i
  refine J.pre fun e41 => ?_
  rw [drawn_eq hn] at e41
  subst e41
  refine j_ist4 (pc := 44) hK dX0_drawn_44 (by decide) rfl ?_
  refine j_aload_n (pc := 46) hK dX0_drawn_46 rfl ?_
  refine xi_getR (pc := 47) (k := 7) hK (fun _ w => w) (by decide) rfl q756 rfl dX0_drawn_47 ?_
  refine j_iconst (pc := 50) (v := 1) hK dX0_drawn_50 (by decide) ?_
  refine j_iload_n (pc := 51) hK dX0_drawn_51 rfl ?_
  refine xi_astL (pc := 52) (i := 1) (n := 9) hK (by decide) rfl (by decide) (fun _ e => e) dX0_drawn_52 ?_
  rw [upd_back]
  refine j_iload (pc := 53) hK dX0_drawn_53 rfl ?_
  exact j_iret (pc := 55) hK hQ (nle rfl) (nle rfl) dX0_drawn_55 (fun h w => ⟨_, rfl, rfl, w⟩)
theorem lN_one (a : Nat) : lN a + 1 = lN (a + 1) := by
  unfold lN
  rw [Int64.ofNat_add]
  rfl
theorem c_Xchance {seed n part : Int32} {nb : Nat} (hn : nb ≤ 7) (e0 : f 0 = nI nb) (hV : XV f g T) : Ct Γ A yX0_chance wX0_chance 177 0 0 [.ref (L 35), .int seed, .int n, .int part] (XI Γ L f g T TT) (RL fun r h => r = oChance f g T nb seed n part ∧ XI Γ L f g T TT h) := by
  refine Ct.of (cc := cX0_chance) (nL := 13) (ret := (some .long)) (ls := [some (.ref (L 35)), some (.int seed), some (.int n), some (.int part), none, none, none, none, none, none, none, none, none]) rfl rfl rfl (nle rfl) ?_
  intro K hK hQ
  have gcd : ∀ m : Nat, m ≤ 20 → 0 < m → n = nI m → oChance f g T nb seed n part = lN ((if part = 0 then gdN f g T nb seed m else m) / Nat.gcd (gdN f g T nb seed m) m) → ∀ (r x y : Nat), y < r → x < 2 ^ 31 → y < 2 ^ 31 → Nat.gcd x y = Nat.gcd (gdN f g T nb seed m) m → J Γ A K 84 [some (.ref (L 35)), some (.int seed), some (.int n), some (.int part), some (.int (cntS g 0 nb)), some (.long (lN (gdN f g T nb seed m))), none, some (.long (lN x)), none, some (.long (lN y)), none, none, none] [] (XI Γ L f g T TT) 0 0 := by
    intro m hm hm0 em hq r
    have hgl := gdN_le (f := f) (g := g) (T := T) (nb := nb) (s := seed) m
    have hg0 : 0 < Nat.gcd (gdN f g T nb seed m) m := Nat.gcd_pos_of_pos_right _ hm0
    have hgb : Nat.gcd (gdN f g T nb seed m) m ≤ m := Nat.gcd_le_right _ hm0
    induction r with
    | zero => intro x y h; omega
    | succ r ih =>
      intro x y hy hx hy2 hg
      by_cases h : y = 0
      · subst h
        rw [Nat.gcd_zero_right] at hg
        have hne : ¬ lN x = 0 := by
          rw [show (0 : Int64) = lN 0 by decide, lN_eq hx (by decide)]
          omega
        refine j_lload (pc := 84) hK dX0_chance_84 rfl ?_
        refine j_lconst (pc := 86) (v := 0) hK dX0_chance_86 (by decide) ?_
        refine j_lcmp (pc := 87) hK dX0_chance_87 ?_
        refine j_if_eq (pc := 88) (tgt := 109) hK dX0_chance_88 (by decide) (fun c88 => ?_) (fun c88 => absurd (by decide) c88)
        refine j_iload_n (pc := 109) hK dX0_chance_109 rfl ?_
        refine j_if_ne (pc := 110) (tgt := 118) hK dX0_chance_110 (by decide) (fun c110 => ?_) (fun c110 => ?_)
        · refine j_iload_n (pc := 118) hK dX0_chance_118 rfl ?_
          refine j_i2l (pc := 119) hK dX0_chance_119 ?_
          rw [em, nI_l (by omega)]
          refine j_lload (pc := 120) hK dX0_chance_120 rfl ?_
          refine j_ldiv (pc := 122) hK dX0_chance_122 hne ?_
          exact j_lret (pc := 123) hK hQ (nle rfl) (nle rfl) dX0_chance_123 (fun h w => ⟨_, rfl, by rw [hq]; first | (rw [if_pos c110, ← hg]; exact pk_lDiv (by omega) (by omega) (by omega)) | (rw [if_neg c110, ← hg]; exact pk_lDiv (by omega) (by omega) (by omega)), w⟩)
        · refine j_lload (pc := 113) hK dX0_chance_113 rfl ?_
          refine j_goto (pc := 115) (tgt := 120) hK dX0_chance_115 (by decide) ?_
          refine j_lload (pc := 120) hK dX0_chance_120 rfl ?_
          refine j_ldiv (pc := 122) hK dX0_chance_122 hne ?_
          exact j_lret (pc := 123) hK hQ (nle rfl) (nle rfl) dX0_chance_123 (fun h w => ⟨_, rfl, by rw [hq]; first | (rw [if_pos c110, ← hg]; exact pk_lDiv (by omega) (by omega) (by omega)) | (rw [if_neg c110, ← hg]; exact pk_lDiv (by omega) (by omega) (by omega)), w⟩)
      · have hne : ¬ lN y = 0 := by
          rw [show (0 : Int64) = lN 0 by decide, lN_eq hy2 (by decide)]
          exact h
        refine j_lload (pc := 84) hK dX0_chance_84 rfl ?_
        refine j_lconst (pc := 86) (v := 0) hK dX0_chance_86 (by decide) ?_
        refine j_lcmp (pc := 87) hK dX0_chance_87 ?_
        refine j_if_eq (pc := 88) (tgt := 109) hK dX0_chance_88 (by decide) (fun c88 => absurd c88 (fun z => hne ((lg_cmp_eq _ _).mp z))) (fun c88 => ?_)
        refine j_lload (pc := 91) hK dX0_chance_91 rfl ?_
        refine j_lload (pc := 93) hK dX0_chance_93 rfl ?_
        refine j_lrem (pc := 95) hK dX0_chance_95 hne ?_
        rw [pk_lRem (by omega) (by omega) (by omega)]
        refine j_lst11 (pc := 96) hK dX0_chance_96 (by decide) rfl ?_
        refine j_lload (pc := 98) hK dX0_chance_98 rfl ?_
        refine j_lst7 (pc := 100) hK dX0_chance_100 (by decide) rfl ?_
        refine j_lload (pc := 102) hK dX0_chance_102 rfl ?_
        refine j_lst9 (pc := 104) hK dX0_chance_104 (by decide) rfl ?_
        refine j_goto (pc := 106) (tgt := 84) hK dX0_chance_106 (by decide) ?_
        refine J.fg _ ?_ (ih y (x % y) (by have := Nat.mod_lt x (Nat.pos_of_ne_zero h); omega) hy2 (by have := Nat.mod_lt x (Nat.pos_of_ne_zero h); omega) (by rw [← hg, Nat.gcd_comm x y, Nat.gcd_rec y x, Nat.gcd_comm]))
        exact ⟨rfl, rfl, rfl, rfl, rfl, rfl, rfl, rfl, trivial⟩
  have loop : ∀ m : Nat, m ≤ 20 → 0 < m → n = nI m → oChance f g T nb seed n part = lN ((if part = 0 then gdN f g T nb seed m else m) / Nat.gcd (gdN f g T nb seed m) m) → ∀ (r i : Nat), i + r = m → J Γ A K 41 [some (.ref (L 35)), some (.int seed), some (.int n), some (.int part), some (.int (cntS g 0 nb)), some (.long (lN (gdN f g T nb seed i))), none, some (.int (nI i)), none, none, none, none, none] [] (XI Γ L f g T TT) 0 0 := by
    intro m hm hm0 em hq r
    induction r with
    | zero =>
      intro i hi
      have : i = m := by omega
      subst this
      have hgl := gdN_le (f := f) (g := g) (T := T) (nb := nb) (s := seed) i
      refine j_iload (pc := 41) hK dX0_chance_41 rfl ?_
      refine j_iload_n (pc := 43) hK dX0_chance_43 rfl ?_
      refine j_icmp_ge (pc := 44) (tgt := 76) hK dX0_chance_44 (by decide) (fun c44 => ?_) (fun c44 => absurd (by rw [em]; exact nI_le (by omega) (by omega)) c44)
      refine j_lload (pc := 76) hK dX0_chance_76 rfl ?_
      refine j_lst7 (pc := 78) hK dX0_chance_78 (by decide) rfl ?_
      refine j_iload_n (pc := 80) hK dX0_chance_80 rfl ?_
      refine j_i2l (pc := 81) hK dX0_chance_81 ?_
      rw [em, nI_l (by omega), ← em]
      refine j_lst9 (pc := 82) hK dX0_chance_82 (by decide) rfl ?_
      exact gcd i hm hm0 em hq (i + 1) (gdN f g T nb seed i) i (by omega) (by omega) (by omega) rfl
    | succ r ih =>
      intro i hi
      refine j_iload (pc := 41) hK dX0_chance_41 rfl ?_
      refine j_iload_n (pc := 43) hK dX0_chance_43 rfl ?_
      refine j_icmp_ge (pc := 44) (tgt := 76) hK dX0_chance_44 (by decide) (fun c44 => absurd c44 (by rw [em]; exact nI_ge (by omega) (by omega))) (fun c44 => ?_)
      refine j_lload (pc := 47) hK dX0_chance_47 rfl ?_
      refine j_aload_n (pc := 49) hK dX0_chance_49 rfl ?_
      refine j_iload_n (pc := 50) hK dX0_chance_50 rfl ?_
      refine j_iload (pc := 51) hK dX0_chance_51 rfl ?_
      refine j_iadd (pc := 53) hK dX0_chance_53 ?_
      refine j_callV (pc := 54) hK hQ (c_Xdrawn hn e0 hV) cal_X0_drawn (xi_isC (fun _ w => w)) q1022 dX0_chance_54 rfl rfl (nle rfl) (nle rfl) (nle rfl) (nle rfl) (kr_i fun r54 => ?_) kx_i
      refine J.pre fun e54 => ?_
      subst e54
      refine j_iload (pc := 57) hK dX0_chance_57 rfl ?_
      refine j_icmp_ne (pc := 59) (tgt := 66) hK dX0_chance_59 (by decide) (fun c59 => ?_) (fun c59 => ?_)
      · refine j_lconst (pc := 66) (v := 0) hK dX0_chance_66 (by decide) ?_
        refine j_ladd (pc := 67) hK dX0_chance_67 ?_
        refine j_lst5 (pc := 68) hK dX0_chance_68 (by decide) rfl ?_
        refine j_iinc7 (pc := 70) (v := 1) hK dX0_chance_70 (by decide) rfl (by decide) ?_
        refine j_goto (pc := 73) (tgt := 41) hK dX0_chance_73 (by decide) ?_
        rw [nI_1]
        first | (rw [lN_one, ← gdN_y c59]; exact ih (i + 1) (by omega)) | (rw [Int64.add_zero, ← gdN_n c59]; exact ih (i + 1) (by omega))
      · refine j_lconst (pc := 62) (v := 1) hK dX0_chance_62 (by decide) ?_
        refine j_goto (pc := 63) (tgt := 67) hK dX0_chance_63 (by decide) ?_
        refine j_ladd (pc := 67) hK dX0_chance_67 ?_
        refine j_lst5 (pc := 68) hK dX0_chance_68 (by decide) rfl ?_
        refine j_iinc7 (pc := 70) (v := 1) hK dX0_chance_70 (by decide) rfl (by decide) ?_
        refine j_goto (pc := 73) (tgt := 41) hK dX0_chance_73 (by decide) ?_
        rw [nI_1]
        first | (rw [lN_one, ← gdN_y c59]; exact ih (i + 1) (by omega)) | (rw [Int64.add_zero, ← gdN_n c59]; exact ih (i + 1) (by omega))
  refine j_iload_n (pc := 0) hK dX0_chance_0 rfl ?_
  refine j_i2l (pc := 1) hK dX0_chance_1 ?_
  refine j_lconst (pc := 2) (v := 1) hK dX0_chance_2 (by decide) ?_
  refine j_ldc2 (pc := 3) hK q1020 dX0_chance_3 ?_
  refine j_callS (pc := 6) hK hQ (c_Xin (l := 1) (u := 20) (by decide) (by decide)) cal_X0_in q106 dX0_chance_6 rfl rfl (nle rfl) (nle rfl) (nle rfl) (nle rfl) (kr_i fun r6 => ?_) kx_i
  refine J.pre fun e6 => ?_
  subst e6
  refine j_if_eq_b (pc := 9) (tgt := 22) hK dX0_chance_9 (by decide) (fun c9 => ?_) (fun c9 => ?_)
  · refine j_ldc2 (pc := 22) hK q1021 dX0_chance_22 ?_
    exact j_lret (pc := 25) hK hQ (nle rfl) (nle rfl) dX0_chance_25 (fun h w => ⟨_, rfl, (by unfold oChance; first | exact (if_pos c9).symm | exact ((if_neg (fun z => z c9)).trans (if_pos c19)).symm), w⟩)
  · refine j_iload_n (pc := 12) hK dX0_chance_12 rfl ?_
    refine j_i2l (pc := 13) hK dX0_chance_13 ?_
    refine j_lconst (pc := 14) (v := 0) hK dX0_chance_14 (by decide) ?_
    refine j_lconst (pc := 15) (v := 1) hK dX0_chance_15 (by decide) ?_
    refine j_callS (pc := 16) hK hQ (c_Xin (l := 0) (u := 1) (by decide) (by decide)) cal_X0_in q106 dX0_chance_16 rfl rfl (nle rfl) (nle rfl) (nle rfl) (nle rfl) (kr_i fun r16 => ?_) kx_i
    refine J.pre fun e16 => ?_
    subst e16
    refine j_if_ne_b (pc := 19) (tgt := 26) hK dX0_chance_19 (by decide) (fun c19 => ?_) (fun c19 => ?_)
    · obtain ⟨m, hm, em⟩ := nI_of2 (x := n) (M := 20) (n := 20) (by decide) (Int32.not_lt.mpr (Int32.le_trans (by decide) c9.1)) c9.2
      have hm0 : 0 < m := by
        rcases Nat.eq_zero_or_pos m with z | z
        · subst z; rw [em] at c9; exact absurd c9.1 (by decide)
        · exact z
      refine j_aload_n (pc := 26) hK dX0_chance_26 rfl ?_
      refine j_callV (pc := 27) hK hQ (c_XonLake hn e0) cal_X0_onLake (xi_isC (fun _ w => w)) q913 dX0_chance_27 rfl rfl (nle rfl) (nle rfl) (nle rfl) (nle rfl) (kr_i fun r27 => ?_) kx_i
      refine J.pre fun e27 => ?_
      subst e27
      refine j_callS (pc := 30) hK hQ (c_bitCount _) cal_J9_bitCount q922 dX0_chance_30 rfl rfl (nle rfl) (nle rfl) (nle rfl) (nle rfl) (kr_i fun r30 => ?_) kx_i
      refine J.pre fun e30 => ?_
      rw [lake_eq hn] at e30
      subst e30
      refine j_ist4 (pc := 33) hK dX0_chance_33 (by decide) rfl ?_
      refine j_lconst (pc := 35) (v := 0) hK dX0_chance_35 (by decide) ?_
      refine j_lst5 (pc := 36) hK dX0_chance_36 (by decide) rfl ?_
      refine j_iconst (pc := 38) (v := 0) hK dX0_chance_38 (by decide) ?_
      refine j_ist7 (pc := 39) hK dX0_chance_39 (by decide) rfl ?_
      exact loop m hm hm0 em (by unfold oChance; rw [if_neg (fun z => z c9), if_neg (fun z => z c19), em, nI_clamp (by omega)]) m 0 (by omega)
    · refine j_ldc2 (pc := 22) hK q1021 dX0_chance_22 ?_
      exact j_lret (pc := 25) hK hQ (nle rfl) (nle rfl) dX0_chance_25 (fun h w => ⟨_, rfl, (by unfold oChance; first | exact (if_pos c9).symm | exact ((if_neg (fun z => z c9)).trans (if_pos c19)).symm), w⟩)
end X61
