/-! the class: a sheet's cell -/
set_option maxRecDepth 100000
section P90
variable {Γ : Gam} {A : Nat → Prop} {L : Nat → Nat} {f : Nat → Int32} {g : Nat → Int32 → Int32} {T : TX} {P P' : PH → Prop} {x : XD}
/-- what the sheets hold to -/
def InvS (g : Nat → Int32 → Int32) : Prop := ∀ k, k < 4 → 0 ≤ g 37 (nI k) ∧ g 37 (nI k) ≤ 40 ∧ (g 36 (nI k) = -1 ∨ g 36 (nI k) = 0 ∨ g 36 (nI k) = 1 ∨ g 36 (nI k) = 2)
theorem it_e (k i : Nat) : 40 * nI k + nI i = nI (40 * k + i) := by rw [show (40 : Int32) = nI 40 by decide, pk_mul, nI_add]
theorem XR.cell {k m : Nat} {v : Int32} (r : XR f g x) (hk : k < 4) (hm : m < 40) : XR f (ug g 38 (40 * nI k + nI m) v) (xpA x (53 + k) (nI m) v) := by
  obtain ⟨r1, r2, r3, r4, r5, r6, r7⟩ := r
  have hq : ∀ j, j ≠ 53 + k → (xpA x (53 + k) (nI m) v).q j = x.q j := fun j h => xpA_q h
  have hg : ∀ j, j ≠ 38 → ∀ i, ug g 38 (40 * nI k + nI m) v j i = g j i := fun j h i => ug_k _ _ _ h i
  refine ⟨r1, fun i hi => by rw [hq 7 (by omega)]; exact r2 i hi, r3, fun j hj b h => ?_, fun j h0 h1 => by rw [hq 16 (by omega), hg 16 (by decide)]; exact r5 j h0 h1, fun h => ?_, fun s hs => ?_⟩
  · rw [hq j (by rcases xgd_in hj with rfl | rfl | rfl | rfl | rfl | rfl | rfl <;> omega), hg (xg j) (by rcases xgd_in hj with rfl | rfl | rfl | rfl | rfl | rfl | rfl <;> decide)]
    exact r4 j hj b h
  · have q := r6 h
    unfold XRi at q ⊢
    rw [hq 33 (by omega), hq 32 (by omega)]
    simp only [hg 35 (by decide)]
    refine ⟨q.1, q.2.1, q.2.2.1, q.2.2.2.1, q.2.2.2.2.1, q.2.2.2.2.2.1, q.2.2.2.2.2.2.1, q.2.2.2.2.2.2.2.1, q.2.2.2.2.2.2.2.2.1, q.2.2.2.2.2.2.2.2.2.1, q.2.2.2.2.2.2.2.2.2.2.1, fun j h1 h2 b h3 h4 => ?_⟩
    rw [hq j (by omega)]
    exact q.2.2.2.2.2.2.2.2.2.2.2 j h1 h2 b h3 h4
  · have q := r7 s hs
    unfold XRs at q ⊢
    rw [hq 38 (by omega), hq 39 (by omega)]
    simp only [hg 36 (by decide), hg 37 (by decide)]
    refine ⟨q.1, fun h => ⟨(q.2 h).1, fun i h1 h2 => ?_⟩⟩
    have q2 := (q.2 h).2 i h1 h2
    show ug x.q (53 + k) (nI m) v (53 + s) (nI i) = _
    by_cases es : s = k
    · subst es
      by_cases ei : i = m
      · subst ei
        rw [ug_s, ug_s]
      · rw [ug_i _ _ _ (fun z => ei ((nI_eq (by omega) (by omega)).mp z)), ug_i _ _ _ (fun z => ei (by rw [it_e, it_e, nI_eq (by omega) (by omega)] at z; omega))]
        exact q2
    · rw [ug_k _ _ _ (by omega), ug_i _ _ _ (fun z => by rw [it_e, it_e, nI_eq (by omega) (by omega)] at z; omega)]
      exact q2
theorem XC.cell {tm k : Nat} {i v : Int32} {h : PH} (w : XC Γ L T tm x h) (hk : k < 4) (hs : ¬ x.q 38 (nI k) = -1) : XC Γ L T tm (xpA x (53 + k) i v) (pu h (L (53 + k)) (.inl (gA Γ (srt (x.q 38 (nI k))), (x.q 39 (nI k)).toNatClampNeg, .inl fun j => (xpA x (53 + k) i v).q (53 + k) (nI j)))) := by
  obtain ⟨w1, t, s⟩ := w
  have e38 : (xpA x (53 + k) i v).q 38 = x.q 38 := xpA_q (by omega)
  have e39 : (xpA x (53 + k) i v).q 39 = x.q 39 := xpA_q (by omega)
  refine ⟨w1.put (k0 := 53 + k) (by rw [xcs_row hk hs]; exact fun z => by cases z) ?_ (fun j hj => xcs_pA (by omega) (by omega) (by omega) (by omega) hj), t.kept (KN.putA _ (w1.at (xcs_row hk hs))) rfl, s⟩
  rw [xcs_row hk (by rw [e38]; exact hs), e38, e39]
theorem ex_isC {x ci : Nat} {C : String} {r : vw_C} (h1 : vwCl[ci]? = some r) (h2 : r.1 = C) : IsC (NBg P x (.inr (ci, []))) x C := fun h ⟨h0, _, _, e⟩ => ⟨ci, [], r, by rw [e, pu_self], h1, h2⟩
theorem XI.nb {φ : XD → Prop} {a : Nat} {e : va_E} {h : PH} (w : NBg (XI Γ L f g T φ) a e h) : XI Γ L f g T φ h := by
  obtain ⟨h0, w, ha, rfl⟩ := w
  exact w.fresh e ha
/-- caught by the second row, the first being passed -/
theorem jt_catch2 {K : JC} {cc : ByteArray} {nL : Nat} {own : String} {hh : List (Nat × Nat × Nat × Nat)} {pc : Nat} {ls : List (Option Value)} {st : List Value} {cs ss x : Nat} {n1 nm : String} (hK : Jok Γ A K cc nL own hh) (y1 y : ExceptionTableEntry) (rest : List ExceptionTableEntry) (hsplit : tableOf hh = y1 :: y :: rest) (hx : covers y pc = true) (h0 : y.catchType ≠ 0) (h01 : y1.catchType ≠ 0) (hl1 : Cond.classLink own y1.catchType n1 ∈ lw_all) (hlink : Cond.classLink own y.catchType nm ∈ lw_all) (hn : va_Nc nm n1 (gs Γ)) (hr : CellC Γ A K P x nm) (kk : J Γ A K y.handlerPc ls [.ref x] P cs ss) : JT Γ A K pc ls st x P cs ss :=
  jt_catchG hK [y1] y rest hsplit hx h0 hlink (fun h H locs hP hR => by
    obtain ⟨cell, q1, q2, q3⟩ := hr h H locs hP hR
    obtain ⟨k, hk, -⟩ := Vm.findClass_spec q3
    obtain ⟨c0, t0, f1, f2, f3⟩ := hn.moved hK.warm.alike
    cases q3.symm.trans f1
    refine ⟨cell, cell.cls, q1, q2, q3, va_asg _ _, ⟨k, hk⟩, fun z hz => ?_⟩
    rw [List.mem_singleton.mp hz]
    exact Or.inr ⟨h01, n1, t0, hl1, f2, f3⟩) kk
theorem sz_lt {a : Int32} (h0 : 0 ≤ a) (h1 : a ≤ 40) : a.toNatClampNeg < 2 ^ 31 := by
  obtain ⟨j, hj, rfl⟩ := nI_of2 (M := 40) (n := 40) (by decide) (Int32.not_lt.mpr h0) h1
  rw [nI_clamp (by omega)]
  omega
theorem cell_m {i a : Int32} (h0 : 0 ≤ i) (h1 : i < a) (z1 : 0 ≤ a) (z2 : a ≤ 40) : ∃ m, m < 40 ∧ i = nI m := by
  obtain ⟨j, hj, rfl⟩ := nI_of2 (x := a) (M := 40) (n := 40) (by decide) (Int32.not_lt.mpr z1) z2
  obtain ⟨m, hm, rfl⟩ := nI_of (Int32.not_lt.mpr h0)
  have := (nI_ltI hm (by omega)).mp h1
  exact ⟨m, by omega, rfl⟩
theorem cell_F {k j : Nat} {i v a s1 s2 : Int32} (es : s1 = s2) (h0 : 0 ≤ i) (hj : j < a.toNatClampNeg) (z1 : 0 ≤ a) (z2 : a ≤ 40) (h1 : i < a) : upd (fun j => x.q (53 + k) (nI j)) i.toNatClampNeg (trS s1 v) j = (xpA x (53 + k) i (trS s2 v)).q (53 + k) (nI j) := by
  subst es
  obtain ⟨m, hm, rfl⟩ := cell_m h0 h1 z1 z2
  obtain ⟨n, hn, rfl⟩ := nI_of2 (x := a) (M := 40) (n := 40) (by decide) (Int32.not_lt.mpr z1) z2
  rw [nI_clamp (by omega)] at hj ⊢
  show (if j = m then _ else _) = ug x.q (53 + k) (nI m) _ (53 + k) (nI j)
  unfold ug
  by_cases e : j = m
  · rw [if_pos e, if_pos ⟨rfl, by rw [e]⟩]
  · rw [if_neg e, if_neg (fun z => e ((nI_eq (by omega) (by omega)).mp z.2))]
theorem i_m1 {i a : Int32} (z1 : 0 ≤ a) (z2 : a ≤ 40) : (0 ≤ i ∧ i ≤ a - 1) ↔ (0 ≤ i ∧ i < a) := by
  obtain ⟨n, hn, rfl⟩ := nI_of2 (x := a) (M := 40) (n := 40) (by decide) (Int32.not_lt.mpr z1) z2
  constructor
  · intro h
    refine ⟨h.1, ?_⟩
    rcases Nat.eq_zero_or_pos n with e | e
    · subst e
      exact absurd (Int32.le_trans h.1 h.2) (by decide)
    · obtain ⟨m, rfl⟩ : ∃ m, n = m + 1 := ⟨n - 1, by omega⟩
      rw [nI_pred] at h
      exact Int32.lt_of_le_of_lt h.2 (nI_lt (by omega) (by omega))
  · intro h
    refine ⟨h.1, ?_⟩
    obtain ⟨m, hm, rfl⟩ := nI_of (Int32.not_lt.mpr h.1)
    have := (nI_ltI hm (by omega)).mp h.2
    obtain ⟨q, rfl⟩ : ∃ q, n = q + 1 := ⟨n - 1, by omega⟩
    rw [nI_pred]
    exact nI_le (by omega) (by omega)
theorem oC_ok {k : Nat} {s i v : Int32} (ek : s = nI k) (hs : 0 ≤ s ∧ s ≤ 3) (h36 : ¬ g 36 (nI k) = -1) (hb : 0 ≤ i ∧ i < g 37 (nI k)) (z1 : 0 ≤ g 37 (nI k)) (z2 : g 37 (nI k) ≤ 40) : oCell f g s i v = (1, f, ug g 38 (40 * s + i) (trS (g 36 (nI k)) v)) := by
  unfold oCell
  rw [if_neg (fun z => z hs), if_neg (by rw [ek]; exact h36), if_neg (fun z => z (by rw [ek]; exact (i_m1 z1 z2).mpr hb)), ek]
  rfl
theorem oC_bad {k : Nat} {s i v : Int32} (ek : s = nI k) (hs : 0 ≤ s ∧ s ≤ 3) (h36 : ¬ g 36 (nI k) = -1) (hb : ¬ (0 ≤ i ∧ i < g 37 (nI k))) (z1 : 0 ≤ g 37 (nI k)) (z2 : g 37 (nI k) ≤ 40) : oCell f g s i v = (-12, f, g) := by
  unfold oCell
  rw [if_neg (fun z => z hs), if_neg (by rw [ek]; exact h36), if_pos (by rw [ek]; exact fun z => hb ((i_m1 z1 z2).mp z))]
theorem c_Xcell {s i v : Int32} (hI : InvS g) : Ct Γ A yX0_cell wX0_cell 176 1 8 [.ref (L 35), .int s, .int i, .int v] (XI Γ L f g T TT) (RI (XO Γ L T (oCell f g s i v))) := by
  refine Ct.ofW (cc := cX0_cell) (nL := 5) (ret := (some .int)) (hh := hX0_cell) (ls := [some (.ref (L 35)), some (.int s), some (.int i), some (.int v), none]) rfl rfl rfl (nle rfl) ?_
  intro K hK hQ
  by_cases hs : 0 ≤ s ∧ s ≤ 3
  · obtain ⟨k, hk3, ek, -⟩ := it_nI hs
    have hk : k < 4 := by omega
    obtain ⟨z1, z2, z3⟩ := hI k hk
    by_cases h36 : g 36 (nI k) = -1
    · have hand : ∀ e cs ss, cs ≤ 1 → ss ≤ 8 → J Γ A K 25 [some (.ref (L 35)), some (.int s), some (.int i), some (.int v), none] [.ref e] (NBg (XI Γ L f g T TT) e (.inr (15, []))) cs ss := by
        intro e cs ss hc hss
        refine j_ast4 (pc := 25) hK dX0_cell_25 (by decide) rfl ?_
        refine j_bipush (pc := 27) (v := (-11)) hK dX0_cell_27 (by decide) ?_
        exact j_iret (pc := 29) hK hQ hc hss dX0_cell_29 (fun h w => ⟨_, rfl, f, g, by unfold oCell; rw [if_neg (fun z => z hs), if_pos (by rw [ek]; exact h36)], XI.nb w⟩)
      refine j_iload_n (pc := 0) hK dX0_cell_0 rfl ?_
      refine j_callS (pc := 1) hK hQ (c_XisSheet _) cal_X0_isSheet q964 dX0_cell_1 rfl rfl (nle rfl) (nle rfl) (nle rfl) (nle rfl) (kr_i fun r1 => ?_) kx_i
      refine J.pre fun e1 => ?_
      subst e1
      refine j_if_ne_b (pc := 4) (tgt := 10) hK dX0_cell_4 (by decide) (fun c4 => ?_) (fun c4 => absurd hs c4)
      refine j_aload_n (pc := 10) hK dX0_cell_10 rfl ?_
      refine xi_getR (pc := 11) (k := 34) hK (fun _ w => w) (by decide) rfl q785 rfl dX0_cell_11 ?_
      refine j_iload_n (pc := 14) hK dX0_cell_14 rfl ?_
      refine xi_shl (pc := 15) hK (fun _ w => w) ek hk dX0_cell_15 ?_
      refine xi_rowN (pc := 16) (n := k) hK (fun _ w => w) hk h36 q738 dX0_cell_16 ?_
      refine j_iload_n (pc := 19) hK dX0_cell_19 rfl ?_
      refine j_iload_n (pc := 20) hK dX0_cell_20 rfl ?_
      refine j_callS (pc := 21) hK hQ (c_XputN) cal_X0_put q1117 dX0_cell_21 rfl rfl (nle rfl) (nle rfl) (nle rfl) (nle rfl) (kr_t (kr_i fun r21 => ?_)) (kx_t nt_i fun e => jt_catch hK ⟨10, 24, 25, 476⟩ [⟨10, 24, 30, 478⟩] rfl rfl (by decide) q1080 (IsC.cellC hK (ex_isC (P := XI Γ L f g T TT) (ci := 15) (r := (RJ12, TJ10, 0)) rfl rfl)) (hand e _ _ (nle rfl) (nle rfl)))
      exact J.void (fun _ z => z)
    · skip
      have h3 := z3.resolve_left h36
      by_cases hb : 0 ≤ i ∧ i < g 37 (nI k)
      · skip
        refine j_iload_n (pc := 0) hK dX0_cell_0 rfl ?_
        refine j_callS (pc := 1) hK hQ (c_XisSheet _) cal_X0_isSheet q964 dX0_cell_1 rfl rfl (nle rfl) (nle rfl) (nle rfl) (nle rfl) (kr_i fun r1 => ?_) kx_i
        refine J.pre fun e1 => ?_
        subst e1
        refine j_if_ne_b (pc := 4) (tgt := 10) hK dX0_cell_4 (by decide) (fun c4 => ?_) (fun c4 => absurd hs c4)
        refine j_aload_n (pc := 10) hK dX0_cell_10 rfl ?_
        refine xi_getR (pc := 11) (k := 34) hK (fun _ w => w) (by decide) rfl q785 rfl dX0_cell_11 ?_
        refine j_iload_n (pc := 14) hK dX0_cell_14 rfl ?_
        refine xi_shl (pc := 15) hK (fun _ w => w) ek hk dX0_cell_15 ?_
        refine xi_rowR (pc := 16) (n := k) hK (fun _ w => w) hk h36 q738 dX0_cell_16 ?_
        refine xi_open fun x r _ => ?_
        have hq38 : x.q 38 (nI k) = g 36 (nI k) := (r.2.2.2.2.2.2 k hk).1
        have hq39 : x.q 39 (nI k) = g 37 (nI k) := ((r.2.2.2.2.2.2 k hk).2 h36).1
        have hnn : nI (x.q 39 (nI k)).toNatClampNeg = g 37 (nI k) := by rw [hq39, nI_cl (Int32.not_lt.mpr z1)]
        have h38 : ¬ x.q 38 (nI k) = -1 := by rw [hq38]; exact h36
        have row : Row Γ (XC Γ L T (f 17).toNatClampNeg x) (L (53 + k)) (x.q 38 (nI k)) (x.q 39 (nI k)).toNatClampNeg (fun j => x.q (53 + k) (nI j)) := fun h w => w.1.at (xcs_row hk h38)
        have hsr : x.q 38 (nI k) = 0 ∨ x.q 38 (nI k) = 1 ∨ x.q 38 (nI k) = 2 := by rw [hq38]; exact h3
        refine j_iload_n (pc := 19) hK dX0_cell_19 rfl ?_
        refine j_iload_n (pc := 20) hK dX0_cell_20 rfl ?_
        refine j_callS (pc := 21) hK hQ (c_Xput (P' := XC Γ L T (f 17).toNatClampNeg (xpA x (53 + k) i (trS (g 36 (nI k)) v))) hsr row hb.1 (by rw [hnn]; exact hb.2) (by rw [hq39]; exact sz_lt z1 z2) (fun j hj => cell_F (by rw [hq38]) hb.1 (by rw [hq39] at hj; exact hj) z1 z2 hb.2) (fun h w => w.cell hk h38)) cal_X0_put q1117 dX0_cell_21 rfl rfl (nle rfl) (nle rfl) (nle rfl) (nle rfl) (kr_i fun r21 => ?_) kx_i
        refine J.pre fun e21 => ?_
        subst e21
        exact j_iret (pc := 24) hK hQ (nle rfl) (nle rfl) dX0_cell_24 (fun h w => ⟨_, rfl, f, ug g 38 (40 * s + i) (trS (g 36 (nI k)) v), oC_ok ek hs h36 hb z1 z2, by obtain ⟨m, hm, rfl⟩ := cell_m hb.1 hb.2 z1 z2; rw [ek]; exact xi_close w rfl (r.cell hk hm) trivial⟩)
      · have hand : ∀ (x : XD) e cs ss, XR f g x → cs ≤ 1 → ss ≤ 8 → J Γ A K 30 [some (.ref (L 35)), some (.int s), some (.int i), some (.int v), none] [.ref e] (NBg (XC Γ L T (f 17).toNatClampNeg x) e (.inr (18, []))) cs ss := by
          intro x e cs ss r hc hss
          refine j_ast4 (pc := 30) hK dX0_cell_30 (by decide) rfl ?_
          refine j_bipush (pc := 32) (v := (-12)) hK dX0_cell_32 (by decide) ?_
          exact j_iret (pc := 34) hK hQ hc hss dX0_cell_34 (fun h w => ⟨_, rfl, f, g, oC_bad ek hs h36 hb z1 z2, by obtain ⟨h0, w, ha, rfl⟩ := w; exact XI.fresh _ (xi_close w rfl r trivial) ha⟩)
        refine j_iload_n (pc := 0) hK dX0_cell_0 rfl ?_
        refine j_callS (pc := 1) hK hQ (c_XisSheet _) cal_X0_isSheet q964 dX0_cell_1 rfl rfl (nle rfl) (nle rfl) (nle rfl) (nle rfl) (kr_i fun r1 => ?_) kx_i
        refine J.pre fun e1 => ?_
        subst e1
        refine j_if_ne_b (pc := 4) (tgt := 10) hK dX0_cell_4 (by decide) (fun c4 => ?_) (fun c4 => absurd hs c4)
        refine j_aload_n (pc := 10) hK dX0_cell_10 rfl ?_
        refine xi_getR (pc := 11) (k := 34) hK (fun _ w => w) (by decide) rfl q785 rfl dX0_cell_11 ?_
        refine j_iload_n (pc := 14) hK dX0_cell_14 rfl ?_
        refine xi_shl (pc := 15) hK (fun _ w => w) ek hk dX0_cell_15 ?_
        refine xi_rowR (pc := 16) (n := k) hK (fun _ w => w) hk h36 q738 dX0_cell_16 ?_
        refine xi_open fun x r _ => ?_
        have hq38 : x.q 38 (nI k) = g 36 (nI k) := (r.2.2.2.2.2.2 k hk).1
        have hq39 : x.q 39 (nI k) = g 37 (nI k) := ((r.2.2.2.2.2.2 k hk).2 h36).1
        have hnn : nI (x.q 39 (nI k)).toNatClampNeg = g 37 (nI k) := by rw [hq39, nI_cl (Int32.not_lt.mpr z1)]
        have h38 : ¬ x.q 38 (nI k) = -1 := by rw [hq38]; exact h36
        have row : Row Γ (XC Γ L T (f 17).toNatClampNeg x) (L (53 + k)) (x.q 38 (nI k)) (x.q 39 (nI k)).toNatClampNeg (fun j => x.q (53 + k) (nI j)) := fun h w => w.1.at (xcs_row hk h38)
        have hsr : x.q 38 (nI k) = 0 ∨ x.q 38 (nI k) = 1 ∨ x.q 38 (nI k) = 2 := by rw [hq38]; exact h3
        refine j_iload_n (pc := 19) hK dX0_cell_19 rfl ?_
        refine j_iload_n (pc := 20) hK dX0_cell_20 rfl ?_
        refine j_callS (pc := 21) hK hQ (c_XputX hsr row (by rw [hnn]; exact hb)) cal_X0_put q1117 dX0_cell_21 rfl rfl (nle rfl) (nle rfl) (nle rfl) (nle rfl) (kr_t (kr_i fun r21 => ?_)) (kx_t nt_i fun e => jt_catch2 hK ⟨10, 24, 25, 476⟩ ⟨10, 24, 30, 478⟩ [] rfl rfl (by decide) (by decide) q1080 q982 (nc_IndexOutOfBoundsException_NullPointerException hK.g) (IsC.cellC hK (ex_isC (P := XC Γ L T (f 17).toNatClampNeg x) (ci := 18) (r := (RJ10, TJ10, 0)) rfl rfl)) (hand x e _ _ r (nle rfl) (nle rfl)))
        exact J.void (fun _ z => z)
  · skip
    refine j_iload_n (pc := 0) hK dX0_cell_0 rfl ?_
    refine j_callS (pc := 1) hK hQ (c_XisSheet _) cal_X0_isSheet q964 dX0_cell_1 rfl rfl (nle rfl) (nle rfl) (nle rfl) (nle rfl) (kr_i fun r1 => ?_) kx_i
    refine J.pre fun e1 => ?_
    subst e1
    refine j_if_ne_b (pc := 4) (tgt := 10) hK dX0_cell_4 (by decide) (fun c4 => absurd c4 hs) (fun c4 => ?_)
    refine j_bipush (pc := 7) (v := (-2)) hK dX0_cell_7 (by decide) ?_
    exact j_iret (pc := 9) hK hQ (nle rfl) (nle rfl) dX0_cell_9 (fun h w => ⟨_, rfl, f, g, by unfold oCell; rw [if_pos hs], w⟩)
end P90
