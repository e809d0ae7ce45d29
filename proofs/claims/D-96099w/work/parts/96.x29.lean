/-! the class: a piece of a sheet is copied -/
set_option maxRecDepth 100000
section P96
variable {Γ : Gam} {A : Nat → Prop} {L : Nat → Nat} {f : Nat → Int32} {g : Nat → Int32 → Int32} {T : TX} {P P' : PH → Prop} {x : XD} {tm : Nat}
/-- the cells fit their sheet's sort -/
def InvF (g : Nat → Int32 → Int32) : Prop := ∀ k i : Nat, k < 4 → i < 40 → trS (g 36 (nI k)) (g 38 (40 * nI k + nI i)) = g 38 (40 * nI k + nI i)
theorem fit8 {v : Int32} (h : v.toInt8.toInt32 = v) : fits .byte (.int v) = true := by
  have e : v.toInt = v.toInt8.toInt := by rw [← Int8.toInt_toInt32, h]
  have h1 := Int8.le_toInt v.toInt8
  have h2 := Int8.toInt_lt v.toInt8
  have a1 : (-128 : Int32) ≤ v := by
    rw [Int32.le_iff_toInt_le]
    have : (-128 : Int32).toInt = -128 := by decide
    omega
  have a2 : v ≤ 127 := by
    rw [Int32.le_iff_toInt_le]
    have : (127 : Int32).toInt = 127 := by decide
    omega
  show (decide (-128 ≤ v) && decide (v ≤ 127)) = true
  rw [decide_eq_true a1, decide_eq_true a2]
  rfl
theorem fit16 {v : Int32} (h : v.toInt16.toInt32 = v) : fits .short (.int v) = true := by
  have e : v.toInt = v.toInt16.toInt := by rw [← Int16.toInt_toInt32, h]
  have h1 := Int16.le_toInt v.toInt16
  have h2 := Int16.toInt_lt v.toInt16
  have a1 : (-32768 : Int32) ≤ v := by
    rw [Int32.le_iff_toInt_le]
    have : (-32768 : Int32).toInt = -32768 := by decide
    omega
  have a2 : v ≤ 32767 := by
    rw [Int32.le_iff_toInt_le]
    have : (32767 : Int32).toInt = 32767 := by decide
    omega
  show (decide (-32768 ≤ v) && decide (v ≤ 32767)) = true
  rw [decide_eq_true a1, decide_eq_true a2]
  rfl
theorem cpS_o {src dst : Int32} : ∀ (n : Nat) {j : Nat} {i : Int32}, j ≠ 38 → cpS g src dst n j i = g j i := by
  intro n
  induction n with
  | zero => intro j i _; rfl
  | succ n ih => intro j i hj; show ug (cpS g src dst n) 38 _ _ j i = _; rw [ug_k _ _ _ hj]; exact ih hj
theorem cpS_in {src : Int32} {D : Nat} : ∀ (n : Nat), D + n ≤ 160 → ∀ q, q < n → cpS g src (nI D) n 38 (nI (D + q)) = g 38 (src + nI q) := by
  intro n
  induction n with
  | zero => intro _ q hq; omega
  | succ n ih =>
    intro hn q hq
    show ug (cpS g src (nI D) n) 38 (nI D + nI n) (g 38 (src + nI n)) 38 (nI (D + q)) = _
    rw [nI_add]
    by_cases e : q = n
    · rw [e, ug_s]
    · rw [ug_i _ _ _ (fun z => by rw [nI_eq (by omega) (by omega)] at z; omega)]
      exact ih (by omega) q (by omega)
theorem cpS_out {src : Int32} {D p : Nat} (hp : p < 160) : ∀ (n : Nat), D + n ≤ 160 → (p < D ∨ D + n ≤ p) → cpS g src (nI D) n 38 (nI p) = g 38 (nI p) := by
  intro n
  induction n with
  | zero => intro _ _; rfl
  | succ n ih =>
    intro hn hq
    show ug (cpS g src (nI D) n) 38 (nI D + nI n) (g 38 (src + nI n)) 38 (nI p) = _
    rw [nI_add, ug_i _ _ _ (fun z => by rw [nI_eq (by omega) (by omega)] at z; omega)]
    exact ih (by omega) (by omega)
/-- the world with the row G at the sheet k -/
def xrS (x : XD) (k : Nat) (G : Nat → Int32) : XD := (x.1, (fun m j => if m = 53 + k then G j.toNatClampNeg else x.2.1 m j), x.2.2)
theorem xrS_q {k m : Nat} {G : Nat → Int32} (h : m ≠ 53 + k) : (xrS x k G).q m = x.q m := funext fun j => if_neg h
theorem xrS_s {k : Nat} {G : Nat → Int32} {j : Int32} : (xrS x k G).q (53 + k) j = G j.toNatClampNeg := if_pos rfl
theorem xcs_rS {k k' : Nat} {G : Nat → Int32} (h : k' ≠ 53 + k) : xcs Γ L (xrS x k G) tm k' = xcs Γ L x tm k' := by
  unfold xcs
  rw [xrS_q h, xrS_q (m := 36) (by omega), xrS_q (m := 37) (by omega), xrS_q (m := 38) (by omega), xrS_q (m := 39) (by omega)]
  rfl
theorem XC.rowS {k : Nat} {G : Nat → Int32} {h : PH} (w : XC Γ L T tm x h) (hk : k < 4) (hs : ¬ x.q 38 (nI k) = -1) : XC Γ L T tm (xrS x k G) (pu h (L (53 + k)) (.inl (gA Γ (srt (x.q 38 (nI k))), (x.q 39 (nI k)).toNatClampNeg, .inl fun j => (xrS x k G).q (53 + k) (nI j)))) := by
  obtain ⟨w1, t, s⟩ := w
  have e38 : (xrS x k G).q 38 = x.q 38 := xrS_q (by omega)
  have e39 : (xrS x k G).q 39 = x.q 39 := xrS_q (by omega)
  refine ⟨w1.put (k0 := 53 + k) (by rw [xcs_row hk hs]; exact fun z => by cases z) ?_ (fun j hj => xcs_rS hj), t.kept (KN.putA _ (w1.at (xcs_row hk hs))) rfl, s⟩
  rw [xcs_row hk (by rw [e38]; exact hs), e38, e39]
theorem XR.copy {k m a c n sz : Nat} (r : XR f g x) (hk : k < 4) (hm : m < 4) (h36 : ¬ g 36 (nI k) = -1) (esz : g 37 (nI k) = nI sz) (hsz : sz ≤ 40) (h1 : a + n ≤ sz) (h2 : c + n ≤ 40) : XR f (cpS g (40 * nI k + nI a) (40 * nI m + nI c) n) (xrS x m (va_cpy (fun j => x.q (53 + k) (nI j)) (fun j => x.q (53 + m) (nI j)) a c n)) := by
  have r7 := r.2.2.2.2.2.2
  refine r.arrays (fun p h1 h2 h3 => xrS_q (by omega)) (fun p h1 h2 h3 j => cpS_o n h3) (fun t ht => ?_)
  show XRs _ (xrS x m (va_cpy (fun j => x.q (53 + k) (nI j)) (fun j => x.q (53 + m) (nI j)) a c n)).q t
  have q := r7 t ht
  unfold XRs at q ⊢
  rw [xrS_q (m := 38) (by omega), xrS_q (m := 39) (by omega), cpS_o n (by decide), cpS_o n (by decide)]
  refine ⟨q.1, fun h => ⟨(q.2 h).1, fun i i1 i2 => ?_⟩⟩
  have q2 := (q.2 h).2 i i1 i2
  rw [it_e m c, it_e t i]
  by_cases e : t = m
  · subst e
    rw [xrS_s, nI_clamp (by omega)]
    by_cases hin : c ≤ i ∧ i < c + n
    · rw [pk_cpy_in hin.1 hin.2]
      have e1 := (((r7 k hk).2 h36).2 (a + (i - c)) (by rw [esz]; exact nI_lt (by omega) (by omega)) (by omega))
      have e2 := cpS_in (g := g) (src := 40 * nI k + nI a) (D := 40 * t + c) n (by omega) (i - c) (by omega)
      rw [show 40 * t + c + (i - c) = 40 * t + i by omega] at e2
      rw [e2, it_e k a, nI_add, e1, it_e, Nat.add_assoc]
    · rw [pk_cpy_out (by omega), cpS_out (by omega) n (by omega) (by omega), q2, it_e]
  · rw [xrS_q (by omega), cpS_out (by omega) n (by omega) (by omega), q2, it_e]
theorem cp_l {sz a m : Nat} (h : sz ≤ 40) (ha : a < 2 ^ 31) (hm : m < 2 ^ 31) : (nI sz).toInt64 < (nI a).toInt64 + (nI m).toInt64 ↔ sz < a + m := by
  rw [nI_l ha, nI_l hm, nI_l (show sz < 2 ^ 31 by omega), lN_add, Int64.lt_iff_toInt_lt, pk_lT (by omega), pk_lT (by omega)]
  omega
theorem cp_b {i n : Int32} {sz : Nat} (hsz : sz ≤ 40) (hi : ¬ i < 0) (hn : ¬ n < 0) (h : nI sz < i ∨ nI sz - i < n) : (nI sz).toInt64 < i.toInt64 + n.toInt64 := by
  obtain ⟨a, ha, rfl⟩ := nI_of hi
  obtain ⟨m, hm, rfl⟩ := nI_of hn
  rw [cp_l hsz ha hm]
  rcases Nat.lt_or_ge sz a with z | z
  · omega
  · rcases h with q | q
    · have := (nI_ltI (by omega) ha).mp q
      omega
    · rw [nI_subN z (by omega)] at q
      have := (nI_ltI (by omega) hm).mp q
      omega
theorem cp_g {i n : Int32} {sz : Nat} (hsz : sz ≤ 40) (hi : ¬ i < 0) (hn : ¬ n < 0) (h1 : ¬ nI sz < i) (h2 : ¬ nI sz - i < n) : ¬ (nI sz).toInt64 < i.toInt64 + n.toInt64 ∧ ∃ a m : Nat, i = nI a ∧ n = nI m ∧ a + m ≤ sz := by
  obtain ⟨a, ha, rfl⟩ := nI_of hi
  obtain ⟨m, hm, rfl⟩ := nI_of hn
  rw [cp_l hsz ha hm]
  have z : a ≤ sz := Nat.le_of_not_lt (fun z => h1 (nI_lt z ha))
  rw [nI_subN z (by omega)] at h2
  have : m ≤ sz - a := Nat.le_of_not_lt (fun z => h2 (nI_lt z hm))
  exact ⟨by omega, a, m, rfl, rfl, by omega⟩
theorem oCp_bad {s i o j n : Int32} {sz sy : Nat} (hs : 0 ≤ s ∧ s ≤ 3) (ho : 0 ≤ o ∧ o ≤ 3) (h1 : ¬ g 36 s = -1) (h2 : ¬ g 36 o = -1) (h3 : g 36 s = g 36 o) (e1 : g 37 s = nI sz) (e2 : g 37 o = nI sy) (hb : n < 0 ∨ i < 0 ∨ j < 0 ∨ (nI sz).toInt64 < i.toInt64 + n.toInt64 ∨ (nI sy).toInt64 < j.toInt64 + n.toInt64) : oCopy f g s i o j n = (-12, f, g) := by
  unfold oCopy
  rw [if_neg (fun z => z hs), if_neg (fun z => z ho), if_neg h1, if_neg h2, if_neg (fun z => z h3), e1, e2]
  by_cases a1 : i < 0
  · rw [if_pos a1]
  rw [if_neg a1]
  by_cases a2 : j < 0
  · rw [if_pos a2]
  rw [if_neg a2]
  by_cases a3 : n < 0
  · rw [if_pos a3]
  rw [if_neg a3]
  by_cases a4 : (nI sz).toInt64 < i.toInt64 + n.toInt64
  · rw [if_pos a4]
  rw [if_neg a4]
  by_cases a5 : (nI sy).toInt64 < j.toInt64 + n.toInt64
  · rw [if_pos a5]
  rcases hb with z | z | z | z | z
  · exact absurd z a3
  · exact absurd z a1
  · exact absurd z a2
  · exact absurd z a4
  · exact absurd z a5
theorem oCp_ok {s i o j n : Int32} {sz sy : Nat} (hs : 0 ≤ s ∧ s ≤ 3) (ho : 0 ≤ o ∧ o ≤ 3) (h1 : ¬ g 36 s = -1) (h2 : ¬ g 36 o = -1) (h3 : g 36 s = g 36 o) (e1 : g 37 s = nI sz) (e2 : g 37 o = nI sy) (a3 : ¬ n < 0) (a1 : ¬ i < 0) (a2 : ¬ j < 0) (a4 : ¬ (nI sz).toInt64 < i.toInt64 + n.toInt64) (a5 : ¬ (nI sy).toInt64 < j.toInt64 + n.toInt64) : oCopy f g s i o j n = (n, f, cpS g (40 * s + i) (40 * o + j) n.toNatClampNeg) := by
  unfold oCopy
  rw [if_neg (fun z => z hs), if_neg (fun z => z ho), if_neg h1, if_neg h2, if_neg (fun z => z h3), e1, e2, if_neg a1, if_neg a2, if_neg a3, if_neg a4, if_neg a5]
theorem j_rcopy {K : JC} {cc : ByteArray} {nL : Nat} {own : String} {hh : List (Nat × Nat × Nat × Nat)} {pc : Nat} {ls : List (Option Value)} {st : List Value} {cs ss d mc ms : Nat} {ret : Option FieldType} {Φ : Outcome → PH → Prop} {k k0 idx : Nat} {sp dp n : Int32} (hK : Jok Γ A K cc nL own hh) (hQ : Kq Γ A K d mc ms ret Φ) (hk : k < 4) (hk0 : k0 < 4) (h38 : ¬ x.q 38 (nI k) = -1) (h380 : ¬ x.q 38 (nI k0) = -1) (hs : x.q 38 (nI k) = 0 ∨ x.q 38 (nI k) = 1 ∨ x.q 38 (nI k) = 2) (he : x.q 38 (nI k0) = x.q 38 (nI k)) (fit : ∀ i, i < (x.q 39 (nI k0)).toNatClampNeg → trS (x.q 38 (nI k)) (x.q (53 + k0) (nI i)) = x.q (53 + k0) (nI i)) (h40 : (x.q 39 (nI k)).toNatClampNeg ≤ 40) (h1 : ¬ sp < 0) (h2 : ¬ dp < 0) (h3 : ¬ n < 0) (b0 : sp.toNatClampNeg + n.toNatClampNeg ≤ (x.q 39 (nI k0)).toNatClampNeg) (b1 : dp.toNatClampNeg + n.toNatClampNeg ≤ (x.q 39 (nI k)).toNatClampNeg) (hlink : Cond.methodLink own idx arraycopyName ∈ lw_all) (hd : decode cc pc = .ok (.invokestatic idx, 3)) (hd1 : 1 ≤ d) (hw : (st.map fun v => v.category).sum + (nativeFrameWords "java/lang/System" "arraycopy" 5 + 11) ≤ 60 * d)
    (kk : J Γ A K (pc + 3) ls st (XC Γ L T tm (xrS x k (va_cpy (fun j => x.q (53 + k0) (nI j)) (fun j => x.q (53 + k) (nI j)) sp.toNatClampNeg dp.toNatClampNeg n.toNatClampNeg))) cs ss) : J Γ A K pc ls (.int n :: .int dp :: .ref (L (53 + k)) :: .int sp :: .ref (L (53 + k0)) :: st) (XC Γ L T tm x) cs ss := by
  have hG : ∀ j, j < (x.q 39 (nI k)).toNatClampNeg → va_cpy (fun j => x.q (53 + k0) (nI j)) (fun j => x.q (53 + k) (nI j)) sp.toNatClampNeg dp.toNatClampNeg n.toNatClampNeg j = (xrS x k (va_cpy (fun j => x.q (53 + k0) (nI j)) (fun j => x.q (53 + k) (nI j)) sp.toNatClampNeg dp.toNatClampNeg n.toNatClampNeg)).q (53 + k) (nI j) := fun j hj => by
    rw [xrS_s, nI_clamp (by omega)]
  rcases hs with e | e | e
  · refine j_acopy (t := 1) (ty := .byte) hK hQ rfl rfl hlink hd h1 h2 h3 hd1 hw (fun h w => ?_) kk
    have w1 := w.1.at (xcs_row hk0 h380)
    have w2 := w.1.at (xcs_row hk h38)
    have w3 := w.rowS (G := va_cpy (fun j => x.q (53 + k0) (nI j)) (fun j => x.q (53 + k) (nI j)) sp.toNatClampNeg dp.toNatClampNeg n.toNatClampNeg) hk h38
    rw [he, e] at w1
    rw [e] at w2 w3
    exact ⟨_, _, _, _, _, w1, w2, b0, b1, fun i hi => fit8 (by have := fit (sp.toNatClampNeg + i) (by omega); rw [e] at this; exact this), hG, w3⟩
  · refine j_acopy (t := 2) (ty := .short) hK hQ rfl rfl hlink hd h1 h2 h3 hd1 hw (fun h w => ?_) kk
    have w1 := w.1.at (xcs_row hk0 h380)
    have w2 := w.1.at (xcs_row hk h38)
    have w3 := w.rowS (G := va_cpy (fun j => x.q (53 + k0) (nI j)) (fun j => x.q (53 + k) (nI j)) sp.toNatClampNeg dp.toNatClampNeg n.toNatClampNeg) hk h38
    rw [he, e] at w1
    rw [e] at w2 w3
    exact ⟨_, _, _, _, _, w1, w2, b0, b1, fun i hi => fit16 (by have := fit (sp.toNatClampNeg + i) (by omega); rw [e] at this; exact this), hG, w3⟩
  · refine j_acopy (t := 0) (ty := .int) hK hQ rfl rfl hlink hd h1 h2 h3 hd1 hw (fun h w => ?_) kk
    have w1 := w.1.at (xcs_row hk0 h380)
    have w2 := w.1.at (xcs_row hk h38)
    have w3 := w.rowS (G := va_cpy (fun j => x.q (53 + k0) (nI j)) (fun j => x.q (53 + k) (nI j)) sp.toNatClampNeg dp.toNatClampNeg n.toNatClampNeg) hk h38
    rw [he, e] at w1
    rw [e] at w2 w3
    exact ⟨_, _, _, _, _, w1, w2, b0, b1, fun i hi => rfl, hG, w3⟩
theorem c_Xcopy {s i o j n : Int32} (hI : InvS g) (hF : InvF g) : Ct Γ A yX0_copy wX0_copy 5 0 0 [.ref (L 35), .int s, .int i, .int o, .int j, .int n] (XI Γ L f g T TT) (RI (XO Γ L T (oCopy f g s i o j n))) := by
  refine Ct.of (cc := cX0_copy) (nL := 10) (ret := (some .int)) (ls := [some (.ref (L 35)), some (.int s), some (.int i), some (.int o), some (.int j), some (.int n), none, none, none, none]) rfl rfl rfl (nle rfl) ?_
  intro K hK hQ
  have main : (0 ≤ s ∧ s ≤ 3) → (0 ≤ o ∧ o ≤ 3) → J Γ A K 17 [some (.ref (L 35)), some (.int s), some (.int i), some (.int o), some (.int j), some (.int n), none, none, none, none] [] (XI Γ L f g T TT) 0 0 := by
    intro hs ho
    obtain ⟨k, hk3, ek, -⟩ := it_nI hs
    obtain ⟨m, hm3, em, -⟩ := it_nI ho
    have hk : k < 4 := by omega
    have hm : m < 4 := by omega
    obtain ⟨z1, z2, z3⟩ := hI k hk
    obtain ⟨y1, y2, y3⟩ := hI m hm
    by_cases h36 : g 36 (nI k) = -1
    · skip
      by_cases h36o : g 36 (nI m) = -1
      · skip
        refine j_aload_n (pc := 17) hK dX0_copy_17 rfl ?_
        refine xi_getR (pc := 18) (k := 34) hK (fun _ w => w) (by decide) rfl q785 rfl dX0_copy_18 ?_
        refine j_iload_n (pc := 21) hK dX0_copy_21 rfl ?_
        refine xi_shl (pc := 22) hK (fun _ w => w) ek hk dX0_copy_22 ?_
        refine xi_rowN (pc := 23) (n := k) hK (fun _ w => w) hk h36 q738 dX0_copy_23 ?_
        refine j_Nst6 (pc := 26) hK dX0_copy_26 (by decide) rfl ?_
        refine j_aload_n (pc := 28) hK dX0_copy_28 rfl ?_
        refine xi_getR (pc := 29) (k := 34) hK (fun _ w => w) (by decide) rfl q785 rfl dX0_copy_29 ?_
        refine j_iload_n (pc := 32) hK dX0_copy_32 rfl ?_
        refine xi_shl (pc := 33) hK (fun _ w => w) em hm dX0_copy_33 ?_
        refine xi_rowN (pc := 34) (n := m) hK (fun _ w => w) hm h36o q738 dX0_copy_34 ?_
        refine j_Nst7 (pc := 37) hK dX0_copy_37 (by decide) rfl ?_
        refine j_aloadN (pc := 39) hK dX0_copy_39 rfl ?_
        refine j_ifnullN (pc := 41) (tgt := 49) hK dX0_copy_41 (by decide) ?_
        refine j_bipush (pc := 49) (v := (-11)) hK dX0_copy_49 (by decide) ?_
        exact j_iret (pc := 51) hK hQ (nle rfl) (nle rfl) dX0_copy_51 (fun h w => ⟨_, rfl, f, g, by unfold oCopy; rw [if_neg (fun z => z hs), if_neg (fun z => z ho), if_pos (by rw [ek]; exact h36)], w⟩)
      · skip
        refine j_aload_n (pc := 17) hK dX0_copy_17 rfl ?_
        refine xi_getR (pc := 18) (k := 34) hK (fun _ w => w) (by decide) rfl q785 rfl dX0_copy_18 ?_
        refine j_iload_n (pc := 21) hK dX0_copy_21 rfl ?_
        refine xi_shl (pc := 22) hK (fun _ w => w) ek hk dX0_copy_22 ?_
        refine xi_rowN (pc := 23) (n := k) hK (fun _ w => w) hk h36 q738 dX0_copy_23 ?_
        refine j_Nst6 (pc := 26) hK dX0_copy_26 (by decide) rfl ?_
        refine j_aload_n (pc := 28) hK dX0_copy_28 rfl ?_
        refine xi_getR (pc := 29) (k := 34) hK (fun _ w => w) (by decide) rfl q785 rfl dX0_copy_29 ?_
        refine j_iload_n (pc := 32) hK dX0_copy_32 rfl ?_
        refine xi_shl (pc := 33) hK (fun _ w => w) em hm dX0_copy_33 ?_
        refine xi_rowR (pc := 34) (n := m) hK (fun _ w => w) hm h36o q738 dX0_copy_34 ?_
        refine j_ast7 (pc := 37) hK dX0_copy_37 (by decide) rfl ?_
        refine j_aloadN (pc := 39) hK dX0_copy_39 rfl ?_
        refine j_ifnullN (pc := 41) (tgt := 49) hK dX0_copy_41 (by decide) ?_
        refine j_bipush (pc := 49) (v := (-11)) hK dX0_copy_49 (by decide) ?_
        exact j_iret (pc := 51) hK hQ (nle rfl) (nle rfl) dX0_copy_51 (fun h w => ⟨_, rfl, f, g, by unfold oCopy; rw [if_neg (fun z => z hs), if_neg (fun z => z ho), if_pos (by rw [ek]; exact h36)], w⟩)
    · skip
      by_cases h36o : g 36 (nI m) = -1
      · skip
        refine j_aload_n (pc := 17) hK dX0_copy_17 rfl ?_
        refine xi_getR (pc := 18) (k := 34) hK (fun _ w => w) (by decide) rfl q785 rfl dX0_copy_18 ?_
        refine j_iload_n (pc := 21) hK dX0_copy_21 rfl ?_
        refine xi_shl (pc := 22) hK (fun _ w => w) ek hk dX0_copy_22 ?_
        refine xi_rowR (pc := 23) (n := k) hK (fun _ w => w) hk h36 q738 dX0_copy_23 ?_
        refine j_ast6 (pc := 26) hK dX0_copy_26 (by decide) rfl ?_
        refine j_aload_n (pc := 28) hK dX0_copy_28 rfl ?_
        refine xi_getR (pc := 29) (k := 34) hK (fun _ w => w) (by decide) rfl q785 rfl dX0_copy_29 ?_
        refine j_iload_n (pc := 32) hK dX0_copy_32 rfl ?_
        refine xi_shl (pc := 33) hK (fun _ w => w) em hm dX0_copy_33 ?_
        refine xi_rowN (pc := 34) (n := m) hK (fun _ w => w) hm h36o q738 dX0_copy_34 ?_
        refine j_Nst7 (pc := 37) hK dX0_copy_37 (by decide) rfl ?_
        refine j_aload (pc := 39) hK dX0_copy_39 rfl ?_
        refine j_ifnull (pc := 41) hK dX0_copy_41 ?_
        refine j_aloadN (pc := 44) hK dX0_copy_44 rfl ?_
        refine j_ifnonnullN (pc := 46) hK dX0_copy_46 ?_
        refine j_bipush (pc := 49) (v := (-11)) hK dX0_copy_49 (by decide) ?_
        exact j_iret (pc := 51) hK hQ (nle rfl) (nle rfl) dX0_copy_51 (fun h w => ⟨_, rfl, f, g, by unfold oCopy; rw [if_neg (fun z => z hs), if_neg (fun z => z ho), if_neg (by rw [ek]; exact h36), if_pos (by rw [em]; exact h36o)], w⟩)
      · have h3 := z3.resolve_left h36
        have h3o := y3.resolve_left h36o
        obtain ⟨sz, hsz, esz⟩ := nI_of2 (x := g 37 (nI k)) (M := 40) (n := 40) (by decide) (Int32.not_lt.mpr z1) z2
        obtain ⟨sy, hsy, esy⟩ := nI_of2 (x := g 37 (nI m)) (M := 40) (n := 40) (by decide) (Int32.not_lt.mpr y1) y2
        refine j_aload_n (pc := 17) hK dX0_copy_17 rfl ?_
        refine xi_getR (pc := 18) (k := 34) hK (fun _ w => w) (by decide) rfl q785 rfl dX0_copy_18 ?_
        refine j_iload_n (pc := 21) hK dX0_copy_21 rfl ?_
        refine xi_shl (pc := 22) hK (fun _ w => w) ek hk dX0_copy_22 ?_
        refine xi_rowR (pc := 23) (n := k) hK (fun _ w => w) hk h36 q738 dX0_copy_23 ?_
        refine j_ast6 (pc := 26) hK dX0_copy_26 (by decide) rfl ?_
        refine j_aload_n (pc := 28) hK dX0_copy_28 rfl ?_
        refine xi_getR (pc := 29) (k := 34) hK (fun _ w => w) (by decide) rfl q785 rfl dX0_copy_29 ?_
        refine j_iload_n (pc := 32) hK dX0_copy_32 rfl ?_
        refine xi_shl (pc := 33) hK (fun _ w => w) em hm dX0_copy_33 ?_
        refine xi_rowR (pc := 34) (n := m) hK (fun _ w => w) hm h36o q738 dX0_copy_34 ?_
        refine xi_open fun x r _ => ?_
        have hq38 : x.q 38 (nI k) = g 36 (nI k) := (r.2.2.2.2.2.2 k hk).1
        have hq38o : x.q 38 (nI m) = g 36 (nI m) := (r.2.2.2.2.2.2 m hm).1
        have hq := (r.2.2.2.2.2.2 k hk).2 h36
        have hqo := (r.2.2.2.2.2.2 m hm).2 h36o
        have hq39 : (x.q 39 (nI k)).toNatClampNeg = sz := by rw [hq.1, esz, nI_clamp (by omega)]
        have hq39o : (x.q 39 (nI m)).toNatClampNeg = sy := by rw [hqo.1, esy, nI_clamp (by omega)]
        have h38 : ¬ x.q 38 (nI k) = -1 := by rw [hq38]; exact h36
        have h38o : ¬ x.q 38 (nI m) = -1 := by rw [hq38o]; exact h36o
        have hsr : x.q 38 (nI k) = 0 ∨ x.q 38 (nI k) = 1 ∨ x.q 38 (nI k) = 2 := by rw [hq38]; exact h3
        have hsro : x.q 38 (nI m) = 0 ∨ x.q 38 (nI m) = 1 ∨ x.q 38 (nI m) = 2 := by rw [hq38o]; exact h3o
        have row : Row Γ (XC Γ L T (f 17).toNatClampNeg x) (L (53 + k)) (x.q 38 (nI k)) sz (fun j => x.q (53 + k) (nI j)) := fun h w => by rw [← hq39]; exact w.1.at (xcs_row hk h38)
        have rowo : Row Γ (XC Γ L T (f 17).toNatClampNeg x) (L (53 + m)) (x.q 38 (nI m)) sy (fun j => x.q (53 + m) (nI j)) := fun h w => by rw [← hq39o]; exact w.1.at (xcs_row hm h38o)
        refine j_ast7 (pc := 37) hK dX0_copy_37 (by decide) rfl ?_
        have bad : oCopy f g s i o j n = (-12, f, g) → J Γ A K 138 [some (.ref (L 35)), some (.int s), some (.int i), some (.int o), some (.int j), some (.int n), some (.ref (L (53 + k))), some (.ref (L (53 + m))), some (.int (nI sz)), some (.int (nI sy))] [] (XC Γ L T (f 17).toNatClampNeg x) 0 0 := by
          intro e
          refine j_bipush (pc := 138) (v := (-12)) hK dX0_copy_138 (by decide) ?_
          exact j_iret (pc := 140) hK hQ (nle rfl) (nle rfl) dX0_copy_140 (fun h w => ⟨_, rfl, f, g, e, xi_close w rfl r trivial⟩)
        refine j_aload (pc := 39) hK dX0_copy_39 rfl ?_
        refine j_ifnull (pc := 41) hK dX0_copy_41 ?_
        refine j_aload (pc := 44) hK dX0_copy_44 rfl ?_
        refine j_ifnonnull (pc := 46) (tgt := 52) hK dX0_copy_46 (by decide) ?_
        refine j_aload (pc := 52) hK dX0_copy_52 rfl ?_
        refine j_callS (pc := 54) hK hQ (c_XsortOf hsr row) cal_X0_sortOf q967 dX0_copy_54 rfl rfl (nle rfl) (nle rfl) (nle rfl) (nle rfl) (kr_i fun r54 => ?_) kx_i
        refine J.pre fun e54 => ?_
        subst e54
        refine j_aload (pc := 57) hK dX0_copy_57 rfl ?_
        refine j_callS (pc := 59) hK hQ (c_XsortOf hsro rowo) cal_X0_sortOf q967 dX0_copy_59 rfl rfl (nle rfl) (nle rfl) (nle rfl) (nle rfl) (kr_i fun r59 => ?_) kx_i
        refine J.pre fun e59 => ?_
        subst e59
        refine j_icmp_eq (pc := 62) (tgt := 68) hK dX0_copy_62 (by decide) (fun c62 => ?_) (fun c62 => ?_)
        · have heq : g 36 s = g 36 o := by rw [ek, em, ← hq38, ← hq38o]; exact c62
          have B : (n < 0 ∨ i < 0 ∨ j < 0 ∨ (nI sz).toInt64 < i.toInt64 + n.toInt64 ∨ (nI sy).toInt64 < j.toInt64 + n.toInt64) → oCopy f g s i o j n = (-12, f, g) := oCp_bad hs ho (by rw [ek]; exact h36) (by rw [em]; exact h36o) heq (by rw [ek]; exact esz) (by rw [em]; exact esy)
          refine j_aload (pc := 68) hK dX0_copy_68 rfl ?_
          refine j_aload (pc := 70) hK dX0_copy_70 rfl ?_
          refine j_callS (pc := 72) hK hQ (c_XsortOf hsr row) cal_X0_sortOf q967 dX0_copy_72 rfl rfl (nle rfl) (nle rfl) (nle rfl) (nle rfl) (kr_i fun r72 => ?_) kx_i
          refine J.pre fun e72 => ?_
          subst e72
          refine j_callS (pc := 75) hK hQ (c_XlengthOf hsr row) cal_X0_lengthOf q972 dX0_copy_75 rfl rfl (nle rfl) (nle rfl) (nle rfl) (nle rfl) (kr_i fun r75 => ?_) kx_i
          refine J.pre fun e75 => ?_
          subst e75
          refine j_ist8 (pc := 78) hK dX0_copy_78 (by decide) rfl ?_
          refine j_aload (pc := 80) hK dX0_copy_80 rfl ?_
          refine j_aload (pc := 82) hK dX0_copy_82 rfl ?_
          refine j_callS (pc := 84) hK hQ (c_XsortOf hsro rowo) cal_X0_sortOf q967 dX0_copy_84 rfl rfl (nle rfl) (nle rfl) (nle rfl) (nle rfl) (kr_i fun r84 => ?_) kx_i
          refine J.pre fun e84 => ?_
          subst e84
          refine j_callS (pc := 87) hK hQ (c_XlengthOf hsro rowo) cal_X0_lengthOf q972 dX0_copy_87 rfl rfl (nle rfl) (nle rfl) (nle rfl) (nle rfl) (kr_i fun r87 => ?_) kx_i
          refine J.pre fun e87 => ?_
          subst e87
          refine j_ist9 (pc := 90) hK dX0_copy_90 (by decide) rfl ?_
          refine j_iload (pc := 92) hK dX0_copy_92 rfl ?_
          refine j_if_lt (pc := 94) (tgt := 138) hK dX0_copy_94 (by decide) (fun c94 => ?_) (fun c94 => ?_)
          · exact bad (B (by first | exact Or.inl c94 | exact Or.inr (Or.inl c98) | exact Or.inr (Or.inr (Or.inl c103)) | exact Or.inr (Or.inr (Or.inr (Or.inl (cp_b hsz c98 c94 (Or.inl c109))))) | exact Or.inr (Or.inr (Or.inr (Or.inr (cp_b hsy c103 c94 (Or.inl c116))))) | exact Or.inr (Or.inr (Or.inr (Or.inl (cp_b hsz c98 c94 (Or.inr c125))))) | exact Or.inr (Or.inr (Or.inr (Or.inr (cp_b hsy c103 c94 (Or.inr (Int32.not_le.mp c135))))))))
          · refine j_iload_n (pc := 97) hK dX0_copy_97 rfl ?_
            refine j_if_lt (pc := 98) (tgt := 138) hK dX0_copy_98 (by decide) (fun c98 => ?_) (fun c98 => ?_)
            · exact bad (B (by first | exact Or.inl c94 | exact Or.inr (Or.inl c98) | exact Or.inr (Or.inr (Or.inl c103)) | exact Or.inr (Or.inr (Or.inr (Or.inl (cp_b hsz c98 c94 (Or.inl c109))))) | exact Or.inr (Or.inr (Or.inr (Or.inr (cp_b hsy c103 c94 (Or.inl c116))))) | exact Or.inr (Or.inr (Or.inr (Or.inl (cp_b hsz c98 c94 (Or.inr c125))))) | exact Or.inr (Or.inr (Or.inr (Or.inr (cp_b hsy c103 c94 (Or.inr (Int32.not_le.mp c135))))))))
            · refine j_iload (pc := 101) hK dX0_copy_101 rfl ?_
              refine j_if_lt (pc := 103) (tgt := 138) hK dX0_copy_103 (by decide) (fun c103 => ?_) (fun c103 => ?_)
              · exact bad (B (by first | exact Or.inl c94 | exact Or.inr (Or.inl c98) | exact Or.inr (Or.inr (Or.inl c103)) | exact Or.inr (Or.inr (Or.inr (Or.inl (cp_b hsz c98 c94 (Or.inl c109))))) | exact Or.inr (Or.inr (Or.inr (Or.inr (cp_b hsy c103 c94 (Or.inl c116))))) | exact Or.inr (Or.inr (Or.inr (Or.inl (cp_b hsz c98 c94 (Or.inr c125))))) | exact Or.inr (Or.inr (Or.inr (Or.inr (cp_b hsy c103 c94 (Or.inr (Int32.not_le.mp c135))))))))
              · refine j_iload_n (pc := 106) hK dX0_copy_106 rfl ?_
                refine j_iload (pc := 107) hK dX0_copy_107 rfl ?_
                refine j_icmp_gt (pc := 109) (tgt := 138) hK dX0_copy_109 (by decide) (fun c109 => ?_) (fun c109 => ?_)
                · exact bad (B (by first | exact Or.inl c94 | exact Or.inr (Or.inl c98) | exact Or.inr (Or.inr (Or.inl c103)) | exact Or.inr (Or.inr (Or.inr (Or.inl (cp_b hsz c98 c94 (Or.inl c109))))) | exact Or.inr (Or.inr (Or.inr (Or.inr (cp_b hsy c103 c94 (Or.inl c116))))) | exact Or.inr (Or.inr (Or.inr (Or.inl (cp_b hsz c98 c94 (Or.inr c125))))) | exact Or.inr (Or.inr (Or.inr (Or.inr (cp_b hsy c103 c94 (Or.inr (Int32.not_le.mp c135))))))))
                · refine j_iload (pc := 112) hK dX0_copy_112 rfl ?_
                  refine j_iload (pc := 114) hK dX0_copy_114 rfl ?_
                  refine j_icmp_gt (pc := 116) (tgt := 138) hK dX0_copy_116 (by decide) (fun c116 => ?_) (fun c116 => ?_)
                  · exact bad (B (by first | exact Or.inl c94 | exact Or.inr (Or.inl c98) | exact Or.inr (Or.inr (Or.inl c103)) | exact Or.inr (Or.inr (Or.inr (Or.inl (cp_b hsz c98 c94 (Or.inl c109))))) | exact Or.inr (Or.inr (Or.inr (Or.inr (cp_b hsy c103 c94 (Or.inl c116))))) | exact Or.inr (Or.inr (Or.inr (Or.inl (cp_b hsz c98 c94 (Or.inr c125))))) | exact Or.inr (Or.inr (Or.inr (Or.inr (cp_b hsy c103 c94 (Or.inr (Int32.not_le.mp c135))))))))
                  · refine j_iload (pc := 119) hK dX0_copy_119 rfl ?_
                    refine j_iload (pc := 121) hK dX0_copy_121 rfl ?_
                    refine j_iload_n (pc := 123) hK dX0_copy_123 rfl ?_
                    refine j_isub (pc := 124) hK dX0_copy_124 ?_
                    refine j_icmp_gt (pc := 125) (tgt := 138) hK dX0_copy_125 (by decide) (fun c125 => ?_) (fun c125 => ?_)
                    · exact bad (B (by first | exact Or.inl c94 | exact Or.inr (Or.inl c98) | exact Or.inr (Or.inr (Or.inl c103)) | exact Or.inr (Or.inr (Or.inr (Or.inl (cp_b hsz c98 c94 (Or.inl c109))))) | exact Or.inr (Or.inr (Or.inr (Or.inr (cp_b hsy c103 c94 (Or.inl c116))))) | exact Or.inr (Or.inr (Or.inr (Or.inl (cp_b hsz c98 c94 (Or.inr c125))))) | exact Or.inr (Or.inr (Or.inr (Or.inr (cp_b hsy c103 c94 (Or.inr (Int32.not_le.mp c135))))))))
                    · refine j_iload (pc := 128) hK dX0_copy_128 rfl ?_
                      refine j_iload (pc := 130) hK dX0_copy_130 rfl ?_
                      refine j_iload (pc := 132) hK dX0_copy_132 rfl ?_
                      refine j_isub (pc := 134) hK dX0_copy_134 ?_
                      refine j_icmp_le (pc := 135) (tgt := 141) hK dX0_copy_135 (by decide) (fun c135 => ?_) (fun c135 => ?_)
                      · obtain ⟨g1, a, q, ea, eq, l1⟩ := cp_g hsz c98 c94 c109 c125
                        obtain ⟨g2, c, q', ec, eq', l2⟩ := cp_g hsy c103 c94 c116 (Int32.not_lt.mpr c135)
                        have eqq : q' = q := by rw [eq, nI_eq (by omega) (by omega)] at eq'; exact eq'.symm
                        subst eqq
                        have ok := oCp_ok (f := f) hs ho (by rw [ek]; exact h36) (by rw [em]; exact h36o) heq (by rw [ek]; exact esz) (by rw [em]; exact esy) c94 c98 c103 g1 g2
                        refine j_aload (pc := 141) hK dX0_copy_141 rfl ?_
                        refine j_iload_n (pc := 143) hK dX0_copy_143 rfl ?_
                        refine j_aload (pc := 144) hK dX0_copy_144 rfl ?_
                        refine j_iload (pc := 146) hK dX0_copy_146 rfl ?_
                        refine j_iload (pc := 148) hK dX0_copy_148 rfl ?_
                        refine j_rcopy (pc := 150) hK hQ hm hk h38o h38 hsro c62 (fun i hi => ?_) (by omega) c98 c103 c94 (by rw [ea, eq, hq39, nI_clamp (by omega), nI_clamp (by omega)]; omega) (by rw [ec, eq, hq39o, nI_clamp (by omega), nI_clamp (by omega)]; omega) q936 dX0_copy_150 (by decide) (by decide) ?_
                        · rw [hq39] at hi
                          rw [hq.2 i (by rw [esz]; exact nI_lt hi (by omega)) (by omega), ← c62, hq38]
                          exact hF k i hk (by omega)
                        refine j_iload (pc := 153) hK dX0_copy_153 rfl ?_
                        exact j_iret (pc := 155) hK hQ (nle rfl) (nle rfl) dX0_copy_155 (fun h w => ⟨_, rfl, f, _, ok, by have r' := r.copy (a := a) (c := c) (n := q') hk hm h36 esz hsz l1 (by omega); rw [ek, em, ea, ec, eq]; rw [ea, ec, eq] at w; rw [nI_clamp (by omega), nI_clamp (by omega), nI_clamp (by omega)] at w; rw [nI_clamp (by omega)]; exact xi_close w rfl r' trivial⟩)
                      · exact bad (B (by first | exact Or.inl c94 | exact Or.inr (Or.inl c98) | exact Or.inr (Or.inr (Or.inl c103)) | exact Or.inr (Or.inr (Or.inr (Or.inl (cp_b hsz c98 c94 (Or.inl c109))))) | exact Or.inr (Or.inr (Or.inr (Or.inr (cp_b hsy c103 c94 (Or.inl c116))))) | exact Or.inr (Or.inr (Or.inr (Or.inl (cp_b hsz c98 c94 (Or.inr c125))))) | exact Or.inr (Or.inr (Or.inr (Or.inr (cp_b hsy c103 c94 (Or.inr (Int32.not_le.mp c135))))))))
        · refine j_bipush (pc := 65) (v := (-13)) hK dX0_copy_65 (by decide) ?_
          exact j_iret (pc := 67) hK hQ (nle rfl) (nle rfl) dX0_copy_67 (fun h w => ⟨_, rfl, f, g, by unfold oCopy; rw [if_neg (fun z => z hs), if_neg (fun z => z ho), if_neg (by rw [ek]; exact h36), if_neg (by rw [em]; exact h36o), if_pos (by rw [ek, em, ← hq38, ← hq38o]; exact c62)], xi_close w rfl r trivial⟩)
  refine j_iload_n (pc := 0) hK dX0_copy_0 rfl ?_
  refine j_callS (pc := 1) hK hQ (c_XisSheet _) cal_X0_isSheet q964 dX0_copy_1 rfl rfl (nle rfl) (nle rfl) (nle rfl) (nle rfl) (kr_i fun r1 => ?_) kx_i
  refine J.pre fun e1 => ?_
  subst e1
  refine j_if_eq_b (pc := 4) (tgt := 14) hK dX0_copy_4 (by decide) (fun c4 => ?_) (fun c4 => ?_)
  · refine j_bipush (pc := 14) (v := (-2)) hK dX0_copy_14 (by decide) ?_
    exact j_iret (pc := 16) hK hQ (nle rfl) (nle rfl) dX0_copy_16 (fun h w => ⟨_, rfl, f, g, by unfold oCopy; first | rw [if_pos c4] | rw [if_neg (fun z => z c4), if_pos c11], w⟩)
  · refine j_iload_n (pc := 7) hK dX0_copy_7 rfl ?_
    refine j_callS (pc := 8) hK hQ (c_XisSheet _) cal_X0_isSheet q964 dX0_copy_8 rfl rfl (nle rfl) (nle rfl) (nle rfl) (nle rfl) (kr_i fun r8 => ?_) kx_i
    refine J.pre fun e8 => ?_
    subst e8
    refine j_if_ne_b (pc := 11) (tgt := 17) hK dX0_copy_11 (by decide) (fun c11 => ?_) (fun c11 => ?_)
    · exact main c4 c11
    · refine j_bipush (pc := 14) (v := (-2)) hK dX0_copy_14 (by decide) ?_
      exact j_iret (pc := 16) hK hQ (nle rfl) (nle rfl) dX0_copy_16 (fun h w => ⟨_, rfl, f, g, by unfold oCopy; first | rw [if_pos c4] | rw [if_neg (fun z => z c4), if_pos c11], w⟩)
end P96
