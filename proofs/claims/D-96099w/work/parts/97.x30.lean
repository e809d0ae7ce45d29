/-! the class: boats come out of a sheet -/
set_option maxRecDepth 100000
section P97p
theorem bs_int {fr : Int32} {k : Nat} (hk : k ≤ 7) : (bsI fr k).toInt = fr.toInt + 3 * k := by
  unfold bsI
  rw [nI_l (by omega), show (3 : Int64) = lN 3 by decide, lN_mul]
  rw [Int64.toInt_add, Int32.toInt_toInt64, pk_lT (by omega)]
  have a1 := Int32.toInt_lt fr
  have a2 := Int32.le_toInt fr
  rw [Int.bmod_eq_of_le (by omega) (by omega)]
  push_cast
  omega
theorem bs_int2 {fr : Int32} {k : Nat} (hk : k ≤ 7) : (bsI fr k + 2).toInt = fr.toInt + 3 * k + 2 := by
  have a1 := Int32.toInt_lt fr
  have a2 := Int32.le_toInt fr
  rw [Int64.toInt_add, bs_int hk, show (2 : Int64).toInt = 2 by decide, Int.bmod_eq_of_le (by omega) (by omega)]
theorem ix_int {fr : Int32} {k : Nat} (hk : k ≤ 7) : (fr + 3 * nI k).toInt = fr.toInt + 3 * k ∨ (fr + 3 * nI k).toInt = fr.toInt + 3 * k - 2 ^ 32 := by
  have a1 := Int32.toInt_lt fr
  have a2 := Int32.le_toInt fr
  have e : (3 * nI k : Int32).toInt = 3 * k := by
    rw [show (3 : Int32) = nI 3 by decide, nI_mul, nI_toInt (by omega)]
    push_cast
    omega
  rw [Int32.toInt_add, e]
  by_cases h : fr.toInt + 3 * k < 2 ^ 31
  · left
    exact Int.bmod_eq_of_le (by omega) (by omega)
  · right
    rw [show fr.toInt + 3 * (k : Int) = (fr.toInt + 3 * k - 2 ^ 32) + (2 ^ 32 : Nat) by omega, Int.add_bmod_right]
    rw [Int.bmod_eq_of_le (by omega) (by omega)]
    omega
theorem cm_good {fr : Int32} {k sz : Nat} (hk : k ≤ 7) (hsz : sz ≤ 40) (h1 : ¬ bsI fr k < 0) (h2 : ¬ (nI sz).toInt64 ≤ bsI fr k + 2) : ∃ v : Nat, v + 2 < sz ∧ fr + 3 * nI k = nI v ∧ (bsI fr k).toInt32 = nI v := by
  have b1 := Int64.not_lt.mp h1
  rw [Int64.le_iff_toInt_le, bs_int hk, show (0 : Int64).toInt = 0 by decide] at b1
  have b2 := Int64.not_le.mp h2
  rw [Int64.lt_iff_toInt_lt, bs_int2 hk, Int32.toInt_toInt64, nI_toInt (by omega)] at b2
  obtain ⟨v, hv⟩ : ∃ v : Nat, fr.toInt + 3 * k = v := ⟨(fr.toInt + 3 * k).toNat, by omega⟩
  have e1 : (fr + 3 * nI k).toInt = v := by
    have a2 := Int32.le_toInt (fr + 3 * nI k)
    have := ix_int (fr := fr) hk
    omega
  refine ⟨v, by omega, ?_, ?_⟩
  · apply Int32.toInt_inj.mp
    rw [e1, nI_toInt (by omega)]
  · have : bsI fr k = lN v := by
      apply Int64.toInt_inj.mp
      rw [bs_int hk, hv, pk_lT (by omega)]
    rw [this, lN_i]
theorem cm_all {fr : Int32} {k sz : Nat} (hk : k ≤ 7) (hsz : sz ≤ 40) (h0 : 0 ≤ fr + 3 * nI k ∧ fr + 3 * nI k < nI sz) (h2 : 0 ≤ fr + 3 * nI k + 2 ∧ fr + 3 * nI k + 2 < nI sz) : ¬ (bsI fr k < 0 ∨ (nI sz).toInt64 ≤ bsI fr k + 2) := by
  obtain ⟨v, hv, e⟩ := nI_of (Int32.not_lt.mpr h0.1)
  rw [e] at h0 h2
  have l0 := (nI_ltI hv (by omega)).mp h0.2
  rw [show (2 : Int32) = nI 2 by decide, nI_add] at h2
  have l2 := (nI_ltI (by omega) (by omega)).mp h2.2
  have i0 := ix_int (fr := fr) hk
  rw [e, nI_toInt hv] at i0
  have a1 := Int32.toInt_lt fr
  have a2 := Int32.le_toInt fr
  rintro (z | z)
  · rw [Int64.lt_iff_toInt_lt, bs_int hk, show (0 : Int64).toInt = 0 by decide] at z
    omega
  · rw [Int64.le_iff_toInt_le, bs_int2 hk, Int32.toInt_toInt64, nI_toInt (by omega)] at z
    omega
theorem cm_bad {fr : Int32} {k sz : Nat} (hk : k ≤ 7) (hsz : sz ≤ 40) (h : bsI fr k < 0 ∨ (nI sz).toInt64 ≤ bsI fr k + 2) : ¬ (0 ≤ fr + 3 * nI k ∧ fr + 3 * nI k < nI sz) ∨ ((0 ≤ fr + 3 * nI k ∧ fr + 3 * nI k < nI sz) ∧ ¬ (0 ≤ fr + 3 * nI k + 1 ∧ fr + 3 * nI k + 1 < nI sz)) ∨ ((0 ≤ fr + 3 * nI k ∧ fr + 3 * nI k < nI sz) ∧ (0 ≤ fr + 3 * nI k + 1 ∧ fr + 3 * nI k + 1 < nI sz) ∧ ¬ (0 ≤ fr + 3 * nI k + 2 ∧ fr + 3 * nI k + 2 < nI sz)) := by
  by_cases c0 : 0 ≤ fr + 3 * nI k ∧ fr + 3 * nI k < nI sz
  · by_cases c1 : 0 ≤ fr + 3 * nI k + 1 ∧ fr + 3 * nI k + 1 < nI sz
    · exact Or.inr (Or.inr ⟨c0, c1, fun c2 => cm_all hk hsz c0 c2 h⟩)
    · exact Or.inr (Or.inl ⟨c0, c1⟩)
  · exact Or.inl c0
theorem oB_f {f : Nat → Int32} {g : Nat → Int32 → Int32} {a b c : Int32} {k : Nat} (h : k ≠ 0) : (oBoat f g a b c).2.1 k = f k := by
  unfold oBoat
  split
  · rfl
  · split
    · rfl
    · split
      · rfl
      · split
        · rfl
        · split
          · rfl
          · simp [upd, h]
theorem oB_N {f : Nat → Int32} {g : Nat → Int32 → Int32} {a b c : Int32} (h : InvN f) : InvN (oBoat f g a b c).2.1 := by
  have h0 := oB_0 (g := g) (a := a) (b := b) (c := c) h.1 h.2.1
  unfold InvN at h ⊢
  rw [oB_f (k := 8) (by decide), oB_f (k := 9) (by decide), oB_f (k := 10) (by decide), oB_f (k := 11) (by decide), oB_f (k := 12) (by decide), oB_f (k := 13) (by decide), oB_f (k := 15) (by decide), oB_f (k := 17) (by decide), oB_f (k := 18) (by decide)]
  exact ⟨h0.1, h0.2, h.2.2⟩
end P97p
section P97
variable {Γ : Gam} {A : Nat → Prop} {L : Nat → Nat} {f : Nat → Int32} {g : Nat → Int32 → Int32} {T : TX} {P P' : PH → Prop} {x : XD}
theorem jt_catch3 {K : JC} {cc : ByteArray} {nL : Nat} {own : String} {hh : List (Nat × Nat × Nat × Nat)} {pc : Nat} {ls : List (Option Value)} {st : List Value} {cs ss x : Nat} {n1 n2 nm : String} (hK : Jok Γ A K cc nL own hh) (y1 y2 y : ExceptionTableEntry) (rest : List ExceptionTableEntry) (hsplit : tableOf hh = y1 :: y2 :: y :: rest) (hx : covers y pc = true) (h0 : y.catchType ≠ 0) (h01 : y1.catchType ≠ 0) (h02 : y2.catchType ≠ 0) (hl1 : Cond.classLink own y1.catchType n1 ∈ lw_all) (hl2 : Cond.classLink own y2.catchType n2 ∈ lw_all) (hlink : Cond.classLink own y.catchType nm ∈ lw_all) (hn1 : va_Nc nm n1 (gs Γ)) (hn2 : va_Nc nm n2 (gs Γ)) (hr : CellC Γ A K P x nm) (kk : J Γ A K y.handlerPc ls [.ref x] P cs ss) : JT Γ A K pc ls st x P cs ss :=
  jt_catchG hK [y1, y2] y rest hsplit hx h0 hlink (fun h H locs hP hR => by
    obtain ⟨cell, q1, q2, q3⟩ := hr h H locs hP hR
    obtain ⟨k, hk, -⟩ := Vm.findClass_spec q3
    obtain ⟨c0, t0, f1, f2, f3⟩ := hn1.moved hK.warm.alike
    obtain ⟨c0', t0', f1', f2', f3'⟩ := hn2.moved hK.warm.alike
    cases q3.symm.trans f1
    cases q3.symm.trans f1'
    refine ⟨cell, cell.cls, q1, q2, q3, va_asg _ _, ⟨k, hk⟩, fun z hz => ?_⟩
    rcases List.mem_cons.mp hz with e | e
    · rw [e]; exact Or.inr ⟨h01, n1, t0, hl1, f2, f3⟩
    · rw [List.mem_singleton.mp e]; exact Or.inr ⟨h02, n2, t0', hl2, f2', f3'⟩) kk
theorem c_XcameN {s fr n : Int32} {a : Nat} (hs : s = 0 ∨ s = 1 ∨ s = 2) : Ct Γ A yX0_came wX0_came 176 1 8 [.ref a, .null, .int s, .int fr, .int n] P (TI P 15) := by
  refine Ct.of (cc := cX0_came) (nL := 10) (ret := (some .int)) (ls := [some (.ref a), some .null, some (.int s), some (.int fr), some (.int n), none, none, none, none, none]) rfl rfl rfl (nle rfl) ?_
  intro K hK hQ
  refine j_aload_nN (pc := 0) hK dX0_came_0 rfl ?_
  refine j_iload_n (pc := 1) hK dX0_came_1 rfl ?_
  refine j_callS (pc := 2) hK hQ (c_XlengthOfN hs) cal_X0_lengthOf q972 dX0_came_2 rfl rfl (nle rfl) (nle rfl) (nle rfl) (nle rfl) (kr_t (kr_i fun r2 => ?_)) (kx_t nt_i fun e => jt_leave hK hQ (by decide) (nle rfl) (nle rfl) (fun h w => Or.inr ⟨_, rfl, w⟩))
  exact J.void (fun _ z => z)
theorem c_XcameC {b m a : Nat} {s t fr n : Int32} {F : Nat → Int32} (hs : s = 0 ∨ s = 1 ∨ s = 2) (ht : t = 0 ∨ t = 1 ∨ t = 2) (hst : ¬ s = t) (hv : Row Γ P b t m F) : Ct Γ A yX0_came wX0_came 176 3 1610 [.ref a, .ref b, .int s, .int fr, .int n] P (TI P 16) := by
  refine Ct.of (cc := cX0_came) (nL := 10) (ret := (some .int)) (ls := [some (.ref a), some (.ref b), some (.int s), some (.int fr), some (.int n), none, none, none, none, none]) rfl rfl rfl (nle rfl) ?_
  intro K hK hQ
  refine j_aload_n (pc := 0) hK dX0_came_0 rfl ?_
  refine j_iload_n (pc := 1) hK dX0_came_1 rfl ?_
  refine j_callS (pc := 2) hK hQ (c_XlengthOfC hs ht hst hv) cal_X0_lengthOf q972 dX0_came_2 rfl rfl (nle rfl) (nle rfl) (nle rfl) (nle rfl) (kr_t (kr_i fun r2 => ?_)) (kx_t nt_i fun e => jt_leave hK hQ (by decide) (nle rfl) (nle rfl) (fun h w => Or.inr ⟨_, rfl, w⟩))
  exact J.void (fun _ z => z)
def CmQ (Γ : Gam) (L : Nat → Nat) (T : TX) (o : R3) : Outcome → PH → Prop := RT (RI (XOe Γ (L 35) T o)) (fun e h => ∃ L' : Nat → Nat, ∃ f' g', o = (-12, f', g') ∧ NBg (XI Γ L' f' g' T TT) e (.inr (18, [])) h ∧ L' 35 = L 35)
theorem c_Xcame {k sz m : Nat} {s fr n : Int32} (hN : InvN f) (hk : k < 4) (es : g 36 (nI k) = s) (hs : s = 0 ∨ s = 1 ∨ s = 2) (esz : g 37 (nI k) = nI sz) (hsz : sz ≤ 40) (em : n = nI m) (hm : m ≤ 7) : Ct Γ A yX0_came wX0_came 8 8 13 [.ref (L 35), .ref (L (53 + k)), .int s, .int fr, .int n] (XI Γ L f g T TT) (CmQ Γ L T (bsL (nI k) fr m 0 f g 0)) := by
  refine Ct.of (cc := cX0_came) (nL := 10) (ret := (some .int)) (ls := [some (.ref (L 35)), some (.ref (L (53 + k))), some (.int s), some (.int fr), some (.int n), none, none, none, none, none]) rfl rfl rfl (nle rfl) ?_
  intro K hK hQ
  have hn1 : ¬ s = -1 := fun z => by rw [z] at hs; revert hs; decide
  have loop : ∀ (r i : Nat) (L1 : Nat → Nat) (f1 : Nat → Int32) (g1 : Nat → Int32 → Int32) (came : Int32), i + r = m → L1 35 = L 35 → InvN f1 → g1 36 (nI k) = s → g1 37 (nI k) = nI sz → bsL (nI k) fr r i f1 g1 came = bsL (nI k) fr m 0 f g 0 → J Γ A K 13 [some (.ref (L1 35)), some (.ref (L1 (53 + k))), some (.int s), some (.int fr), some (.int n), some (.int (nI sz)), some (.int came), some (.int (nI i)), none, none] [] (XI Γ L1 f1 g1 T TT) i i := by
    intro r
    induction r with
    | zero =>
      intro i L1 f1 g1 came hi hL1 hN1 es1 esz1 hp
      refine j_iload (pc := 13) hK dX0_came_13 rfl ?_
      refine j_iload (pc := 15) hK dX0_came_15 rfl ?_
      refine j_icmp_ge (pc := 17) (tgt := 88) hK dX0_came_17 (by decide) (fun c17 => ?_) (fun c17 => absurd (by rw [em]; exact nI_le (by omega) (by omega)) c17)
      refine j_iload (pc := 88) hK dX0_came_88 rfl ?_
      exact j_iret (pc := 90) hK hQ (by omega) (by omega) dX0_came_90 (fun h w => Or.inl ⟨_, rfl, L1, hL1, f1, g1, hp.symm, w⟩)
    | succ r ih =>
      intro i L1 f1 g1 came hi hL1 hN1 es1 esz1 hp
      have h36 : ¬ g1 36 (nI k) = -1 := by rw [es1]; exact hn1
      have key : bsL (nI k) fr (r + 1) i f1 g1 came = if bsI fr i < 0 then (-12, f1, g1) else if (g1 37 (nI k)).toInt64 ≤ bsI fr i + 2 then (-12, f1, g1) else bsL (nI k) fr r (i + 1) (oBoat f1 g1 (g1 38 (40 * nI k + (bsI fr i).toInt32)) (g1 38 (40 * nI k + (bsI fr i).toInt32 + 1)) (g1 38 (40 * nI k + (bsI fr i).toInt32 + 2))).2.1 (oBoat f1 g1 (g1 38 (40 * nI k + (bsI fr i).toInt32)) (g1 38 (40 * nI k + (bsI fr i).toInt32 + 1)) (g1 38 (40 * nI k + (bsI fr i).toInt32 + 2))).2.2 (if (oBoat f1 g1 (g1 38 (40 * nI k + (bsI fr i).toInt32)) (g1 38 (40 * nI k + (bsI fr i).toInt32 + 1)) (g1 38 (40 * nI k + (bsI fr i).toInt32 + 2))).1 < 0 then came else came + 1) := rfl
      rw [key, esz1] at hp
      refine xi_open fun x r0 _ => ?_
      have hq38 : x.q 38 (nI k) = s := (r0.2.2.2.2.2.2 k hk).1.trans es1
      have hq := (r0.2.2.2.2.2.2 k hk).2 h36
      have hq39 : (x.q 39 (nI k)).toNatClampNeg = sz := by rw [hq.1, esz1, nI_clamp (by omega)]
      have row : Row Γ (XC Γ L1 T (f1 17).toNatClampNeg x) (L1 (53 + k)) s sz (fun j => x.q (53 + k) (nI j)) := fun h w => by rw [← hq39, ← hq38]; exact w.1.at (xcs_row hk (by rw [hq38]; exact hn1))
      by_cases hb : bsI fr i < 0 ∨ (nI sz).toInt64 ≤ bsI fr i + 2
      · have ho : bsL (nI k) fr m 0 f g 0 = (-12, f1, g1) := by
          rw [← hp]
          rcases hb with z | z
          · rw [if_pos z]
          · by_cases y : bsI fr i < 0
            · rw [if_pos y]
            · rw [if_neg y, if_pos z]
        have out : ∀ e h, NBg (XC Γ L1 T (f1 17).toNatClampNeg x) e (.inr (18, [])) h → CmQ Γ L T (bsL (nI k) fr m 0 f g 0) (.threw e) h := fun e h w => by
          obtain ⟨h0, w, ha, eh⟩ := w
          exact Or.inr ⟨_, rfl, L1, f1, g1, ho, ⟨h0, xi_close w rfl r0 trivial, ha, eh⟩, hL1⟩
        rcases cm_bad (by omega) hsz hb with c0 | ⟨c0, c1⟩ | ⟨c0, c1, c2⟩
        · skip
          refine j_iload (pc := 13) hK dX0_came_13 rfl ?_
          refine j_iload (pc := 15) hK dX0_came_15 rfl ?_
          refine j_icmp_ge (pc := 17) (tgt := 88) hK dX0_came_17 (by decide) (fun c17 => absurd c17 (by rw [em]; exact nI_ge (by omega) (by omega))) (fun c17 => ?_)
          refine j_aload_n (pc := 20) hK dX0_came_20 rfl ?_
          refine j_iload_n (pc := 21) hK dX0_came_21 rfl ?_
          refine j_iload_n (pc := 22) hK dX0_came_22 rfl ?_
          refine j_iconst (pc := 23) (v := 3) hK dX0_came_23 (by decide) ?_
          refine j_iload (pc := 24) hK dX0_came_24 rfl ?_
          refine j_imul (pc := 26) hK dX0_came_26 ?_
          refine j_iadd (pc := 27) hK dX0_came_27 ?_
          refine j_callS (pc := 28) hK hQ (c_XitemX hs row c0) cal_X0_item q976 dX0_came_28 rfl rfl (nle rfl) (by omega) (by omega) (nle rfl) (kr_t (kr_i fun r28 => ?_)) (kx_t nt_i fun e => jt_leave hK hQ (by decide) (by omega) (by omega) (fun h w => out e h w))
          exact J.void (fun _ z => z)
        · skip
          refine j_iload (pc := 13) hK dX0_came_13 rfl ?_
          refine j_iload (pc := 15) hK dX0_came_15 rfl ?_
          refine j_icmp_ge (pc := 17) (tgt := 88) hK dX0_came_17 (by decide) (fun c17 => absurd c17 (by rw [em]; exact nI_ge (by omega) (by omega))) (fun c17 => ?_)
          refine j_aload_n (pc := 20) hK dX0_came_20 rfl ?_
          refine j_iload_n (pc := 21) hK dX0_came_21 rfl ?_
          refine j_iload_n (pc := 22) hK dX0_came_22 rfl ?_
          refine j_iconst (pc := 23) (v := 3) hK dX0_came_23 (by decide) ?_
          refine j_iload (pc := 24) hK dX0_came_24 rfl ?_
          refine j_imul (pc := 26) hK dX0_came_26 ?_
          refine j_iadd (pc := 27) hK dX0_came_27 ?_
          refine j_callS (pc := 28) hK hQ (c_Xitem hs row c0.1 c0.2 (by omega)) cal_X0_item q976 dX0_came_28 rfl rfl (nle rfl) (by omega) (by omega) (nle rfl) (kr_i fun r28 => ?_) kx_i
          refine J.pre fun e28 => ?_
          subst e28
          refine j_ist8 (pc := 31) hK dX0_came_31 (by decide) rfl ?_
          refine j_aload_n (pc := 33) hK dX0_came_33 rfl ?_
          refine j_iload_n (pc := 34) hK dX0_came_34 rfl ?_
          refine j_iload_n (pc := 35) hK dX0_came_35 rfl ?_
          refine j_iconst (pc := 36) (v := 3) hK dX0_came_36 (by decide) ?_
          refine j_iload (pc := 37) hK dX0_came_37 rfl ?_
          refine j_imul (pc := 39) hK dX0_came_39 ?_
          refine j_iadd (pc := 40) hK dX0_came_40 ?_
          refine j_iconst (pc := 41) (v := 1) hK dX0_came_41 (by decide) ?_
          refine j_iadd (pc := 42) hK dX0_came_42 ?_
          refine j_callS (pc := 43) hK hQ (c_XitemX hs row c1) cal_X0_item q976 dX0_came_43 rfl rfl (nle rfl) (by omega) (by omega) (nle rfl) (kr_t (kr_i fun r43 => ?_)) (kx_t nt_i fun e => jt_leave hK hQ (by decide) (by omega) (by omega) (fun h w => out e h w))
          exact J.void (fun _ z => z)
        · skip
          refine j_iload (pc := 13) hK dX0_came_13 rfl ?_
          refine j_iload (pc := 15) hK dX0_came_15 rfl ?_
          refine j_icmp_ge (pc := 17) (tgt := 88) hK dX0_came_17 (by decide) (fun c17 => absurd c17 (by rw [em]; exact nI_ge (by omega) (by omega))) (fun c17 => ?_)
          refine j_aload_n (pc := 20) hK dX0_came_20 rfl ?_
          refine j_iload_n (pc := 21) hK dX0_came_21 rfl ?_
          refine j_iload_n (pc := 22) hK dX0_came_22 rfl ?_
          refine j_iconst (pc := 23) (v := 3) hK dX0_came_23 (by decide) ?_
          refine j_iload (pc := 24) hK dX0_came_24 rfl ?_
          refine j_imul (pc := 26) hK dX0_came_26 ?_
          refine j_iadd (pc := 27) hK dX0_came_27 ?_
          refine j_callS (pc := 28) hK hQ (c_Xitem hs row c0.1 c0.2 (by omega)) cal_X0_item q976 dX0_came_28 rfl rfl (nle rfl) (by omega) (by omega) (nle rfl) (kr_i fun r28 => ?_) kx_i
          refine J.pre fun e28 => ?_
          subst e28
          refine j_ist8 (pc := 31) hK dX0_came_31 (by decide) rfl ?_
          refine j_aload_n (pc := 33) hK dX0_came_33 rfl ?_
          refine j_iload_n (pc := 34) hK dX0_came_34 rfl ?_
          refine j_iload_n (pc := 35) hK dX0_came_35 rfl ?_
          refine j_iconst (pc := 36) (v := 3) hK dX0_came_36 (by decide) ?_
          refine j_iload (pc := 37) hK dX0_came_37 rfl ?_
          refine j_imul (pc := 39) hK dX0_came_39 ?_
          refine j_iadd (pc := 40) hK dX0_came_40 ?_
          refine j_iconst (pc := 41) (v := 1) hK dX0_came_41 (by decide) ?_
          refine j_iadd (pc := 42) hK dX0_came_42 ?_
          refine j_callS (pc := 43) hK hQ (c_Xitem hs row c1.1 c1.2 (by omega)) cal_X0_item q976 dX0_came_43 rfl rfl (nle rfl) (by omega) (by omega) (nle rfl) (kr_i fun r43 => ?_) kx_i
          refine J.pre fun e43 => ?_
          subst e43
          refine j_ist9 (pc := 46) hK dX0_came_46 (by decide) rfl ?_
          refine j_iload (pc := 48) hK dX0_came_48 rfl ?_
          refine j_aload_n (pc := 50) hK dX0_came_50 rfl ?_
          refine j_iload (pc := 51) hK dX0_came_51 rfl ?_
          refine j_iload (pc := 53) hK dX0_came_53 rfl ?_
          refine j_aload_n (pc := 55) hK dX0_came_55 rfl ?_
          refine j_iload_n (pc := 56) hK dX0_came_56 rfl ?_
          refine j_iload_n (pc := 57) hK dX0_came_57 rfl ?_
          refine j_iconst (pc := 58) (v := 3) hK dX0_came_58 (by decide) ?_
          refine j_iload (pc := 59) hK dX0_came_59 rfl ?_
          refine j_imul (pc := 61) hK dX0_came_61 ?_
          refine j_iadd (pc := 62) hK dX0_came_62 ?_
          refine j_iconst (pc := 63) (v := 2) hK dX0_came_63 (by decide) ?_
          refine j_iadd (pc := 64) hK dX0_came_64 ?_
          refine j_callS (pc := 65) hK hQ (c_XitemX hs row c2) cal_X0_item q976 dX0_came_65 rfl rfl (nle rfl) (by omega) (by omega) (nle rfl) (kr_t (kr_i fun r65 => ?_)) (kx_t nt_i fun e => jt_leave hK hQ (by decide) (by omega) (by omega) (fun h w => out e h w))
          exact J.void (fun _ z => z)
      · obtain ⟨v, hv, hix, hbi⟩ := cm_good (by omega) hsz (fun z => hb (Or.inl z)) (fun z => hb (Or.inr z))
        rw [if_neg (fun z => hb (Or.inl z)), if_neg (fun z => hb (Or.inr z)), hbi] at hp
        have h2 : nI v + 2 = nI (v + 2) := by rw [show (2 : Int32) = nI 2 by decide, nI_add]
        have v0 : x.q (53 + k) (nI (nI v).toNatClampNeg) = g1 38 (40 * nI k + nI v) := by rw [nI_clamp (by omega), hq.2 v (by rw [esz1]; exact nI_lt (by omega) (by omega)) (by omega)]
        have v1 : x.q (53 + k) (nI (nI (v + 1)).toNatClampNeg) = g1 38 (40 * nI k + nI v + 1) := by rw [nI_clamp (by omega), hq.2 (v + 1) (by rw [esz1]; exact nI_lt (by omega) (by omega)) (by omega), it_e, it_e, nI_1]; rfl
        have v2 : x.q (53 + k) (nI (nI (v + 2)).toNatClampNeg) = g1 38 (40 * nI k + nI v + 2) := by rw [nI_clamp (by omega), hq.2 (v + 2) (by rw [esz1]; exact nI_lt (by omega) (by omega)) (by omega), it_e, it_e, show (2 : Int32) = nI 2 by decide, nI_add]; rfl
        refine j_iload (pc := 13) hK dX0_came_13 rfl ?_
        refine j_iload (pc := 15) hK dX0_came_15 rfl ?_
        refine j_icmp_ge (pc := 17) (tgt := 88) hK dX0_came_17 (by decide) (fun c17 => absurd c17 (by rw [em]; exact nI_ge (by omega) (by omega))) (fun c17 => ?_)
        refine j_aload_n (pc := 20) hK dX0_came_20 rfl ?_
        refine j_iload_n (pc := 21) hK dX0_came_21 rfl ?_
        refine j_iload_n (pc := 22) hK dX0_came_22 rfl ?_
        refine j_iconst (pc := 23) (v := 3) hK dX0_came_23 (by decide) ?_
        refine j_iload (pc := 24) hK dX0_came_24 rfl ?_
        refine j_imul (pc := 26) hK dX0_came_26 ?_
        refine j_iadd (pc := 27) hK dX0_came_27 ?_
        rw [hix]
        refine j_callS (pc := 28) hK hQ (c_Xitem hs row (nI_pos' (by omega)) (nI_lt (by omega) (by omega)) (by omega)) cal_X0_item q976 dX0_came_28 rfl rfl (nle rfl) (by omega) (by omega) (nle rfl) (kr_i fun r28 => ?_) kx_i
        refine J.pre fun e28 => ?_
        subst e28
        rw [v0]
        refine j_ist8 (pc := 31) hK dX0_came_31 (by decide) rfl ?_
        refine j_aload_n (pc := 33) hK dX0_came_33 rfl ?_
        refine j_iload_n (pc := 34) hK dX0_came_34 rfl ?_
        refine j_iload_n (pc := 35) hK dX0_came_35 rfl ?_
        refine j_iconst (pc := 36) (v := 3) hK dX0_came_36 (by decide) ?_
        refine j_iload (pc := 37) hK dX0_came_37 rfl ?_
        refine j_imul (pc := 39) hK dX0_came_39 ?_
        refine j_iadd (pc := 40) hK dX0_came_40 ?_
        refine j_iconst (pc := 41) (v := 1) hK dX0_came_41 (by decide) ?_
        refine j_iadd (pc := 42) hK dX0_came_42 ?_
        rw [hix, nI_1]
        refine j_callS (pc := 43) hK hQ (c_Xitem hs row (nI_pos' (by omega)) (nI_lt (by omega) (by omega)) (by omega)) cal_X0_item q976 dX0_came_43 rfl rfl (nle rfl) (by omega) (by omega) (nle rfl) (kr_i fun r43 => ?_) kx_i
        refine J.pre fun e43 => ?_
        subst e43
        rw [v1]
        refine j_ist9 (pc := 46) hK dX0_came_46 (by decide) rfl ?_
        refine j_iload (pc := 48) hK dX0_came_48 rfl ?_
        refine j_aload_n (pc := 50) hK dX0_came_50 rfl ?_
        refine j_iload (pc := 51) hK dX0_came_51 rfl ?_
        refine j_iload (pc := 53) hK dX0_came_53 rfl ?_
        refine j_aload_n (pc := 55) hK dX0_came_55 rfl ?_
        refine j_iload_n (pc := 56) hK dX0_came_56 rfl ?_
        refine j_iload_n (pc := 57) hK dX0_came_57 rfl ?_
        refine j_iconst (pc := 58) (v := 3) hK dX0_came_58 (by decide) ?_
        refine j_iload (pc := 59) hK dX0_came_59 rfl ?_
        refine j_imul (pc := 61) hK dX0_came_61 ?_
        refine j_iadd (pc := 62) hK dX0_came_62 ?_
        refine j_iconst (pc := 63) (v := 2) hK dX0_came_63 (by decide) ?_
        refine j_iadd (pc := 64) hK dX0_came_64 ?_
        rw [hix, h2]
        refine j_callS (pc := 65) hK hQ (c_Xitem hs row (nI_pos' (by omega)) (nI_lt (by omega) (by omega)) (by omega)) cal_X0_item q976 dX0_came_65 rfl rfl (nle rfl) (by omega) (by omega) (nle rfl) (kr_i fun r65 => ?_) kx_i
        refine J.pre fun e65 => ?_
        subst e65
        rw [v2]
        refine J.mono (P' := XI Γ L1 f1 g1 T TT) (fun h w => xi_close w rfl r0 trivial) ?_
        refine j_callV (pc := 68) hK hQ (c_Xboat (L := L1) hN1) cal_X0_boat (xi_isC (fun _ w => w)) q1146 dX0_came_68 rfl rfl (nle rfl) (by omega) (by omega) (nle rfl) (kr_i fun r68 => ?_) kx_i
        refine J.mono (P' := fun h => ∃ L2 : Nat → Nat, (∀ j, j < 36 ∨ 43 ≤ j → L2 j = L1 j) ∧ ∃ (f2 : Nat → Int32) (g2 : Nat → Int32 → Int32), oBoat f1 g1 (g1 38 (40 * nI k + nI v)) (g1 38 (40 * nI k + nI v + 1)) (g1 38 (40 * nI k + nI v + 2)) = (r68, f2, g2) ∧ XI Γ L2 f2 g2 T TT h) (fun h w => w) ?_
        refine J.ex fun L2 => J.pre fun hL2 => J.ex fun f2 => J.ex fun g2 => J.pre fun e68 => ?_
        rw [e68] at hp
        have eN : InvN f2 := by have := oB_N (g := g1) (a := g1 38 (40 * nI k + nI v)) (b := g1 38 (40 * nI k + nI v + 1)) (c := g1 38 (40 * nI k + nI v + 2)) hN1; rw [e68] at this; exact this
        have e36 : g2 36 (nI k) = s := by have := oB_g (f := f1) (g := g1) (a := g1 38 (40 * nI k + nI v)) (b := g1 38 (40 * nI k + nI v + 1)) (c := g1 38 (40 * nI k + nI v + 2)) (k := 36) (by decide) (nI k); rw [e68] at this; exact this.trans es1
        have e37 : g2 37 (nI k) = nI sz := by have := oB_g (f := f1) (g := g1) (a := g1 38 (40 * nI k + nI v)) (b := g1 38 (40 * nI k + nI v + 1)) (c := g1 38 (40 * nI k + nI v + 2)) (k := 37) (by decide) (nI k); rw [e68] at this; exact this.trans esz1
        have go : ∀ came', (if r68 < 0 then came else came + 1) = came' → J Γ A K 13 [some (.ref (L1 35)), some (.ref (L1 (53 + k))), some (.int s), some (.int fr), some (.int n), some (.int (nI sz)), some (.int came'), some (.int (nI (i + 1))), none, none] [] (XI Γ L2 f2 g2 T TT) (i + 1) (i + 1) := fun came' e' => by
          have q := ih (i + 1) L2 f2 g2 came' (by omega) ((hL2 35 (by omega)).trans hL1) eN e36 e37 (by rw [← e']; exact hp)
          rw [hL2 35 (by omega), hL2 (53 + k) (by omega)] at q
          exact q
        refine j_if_lt (pc := 71) (tgt := 78) hK dX0_came_71 (by decide) (fun c71 => ?_) (fun c71 => ?_)
        · refine j_iconst (pc := 78) (v := 0) hK dX0_came_78 (by decide) ?_
          refine j_iadd (pc := 79) hK dX0_came_79 ?_
          refine j_ist6 (pc := 80) hK dX0_came_80 (by decide) rfl ?_
          refine j_iinc7 (pc := 82) (v := 1) hK dX0_came_82 (by decide) rfl (by decide) ?_
          refine j_goto (pc := 85) (tgt := 13) hK dX0_came_85 (by decide) ?_
          rw [nI_1]
          first
            | (rw [Int32.add_zero]; refine J.fg _ ?_ (go _ (if_pos c71)); simp [subL])
            | (refine J.fg _ ?_ (go _ (if_neg c71)); simp [subL])
        · refine j_iconst (pc := 74) (v := 1) hK dX0_came_74 (by decide) ?_
          refine j_goto (pc := 75) (tgt := 79) hK dX0_came_75 (by decide) ?_
          refine j_iadd (pc := 79) hK dX0_came_79 ?_
          refine j_ist6 (pc := 80) hK dX0_came_80 (by decide) rfl ?_
          refine j_iinc7 (pc := 82) (v := 1) hK dX0_came_82 (by decide) rfl (by decide) ?_
          refine j_goto (pc := 85) (tgt := 13) hK dX0_came_85 (by decide) ?_
          rw [nI_1]
          first
            | (rw [Int32.add_zero]; refine J.fg _ ?_ (go _ (if_pos c71)); simp [subL])
            | (refine J.fg _ ?_ (go _ (if_neg c71)); simp [subL])
  refine xi_open fun x r0 _ => ?_
  have hq38 : x.q 38 (nI k) = s := (r0.2.2.2.2.2.2 k hk).1.trans es
  have hq := (r0.2.2.2.2.2.2 k hk).2 (by rw [es]; exact hn1)
  have hq39 : (x.q 39 (nI k)).toNatClampNeg = sz := by rw [hq.1, esz, nI_clamp (by omega)]
  have row : Row Γ (XC Γ L T (f 17).toNatClampNeg x) (L (53 + k)) s sz (fun j => x.q (53 + k) (nI j)) := fun h w => by rw [← hq39, ← hq38]; exact w.1.at (xcs_row hk (by rw [hq38]; exact hn1))
  refine j_aload_n (pc := 0) hK dX0_came_0 rfl ?_
  refine j_iload_n (pc := 1) hK dX0_came_1 rfl ?_
  refine j_callS (pc := 2) hK hQ (c_XlengthOf hs row) cal_X0_lengthOf q972 dX0_came_2 rfl rfl (nle rfl) (by omega) (by omega) (nle rfl) (kr_i fun r2 => ?_) kx_i
  refine J.pre fun e2 => ?_
  subst e2
  refine j_ist5 (pc := 5) hK dX0_came_5 (by decide) rfl ?_
  refine j_iconst (pc := 7) (v := 0) hK dX0_came_7 (by decide) ?_
  refine j_ist6 (pc := 8) hK dX0_came_8 (by decide) rfl ?_
  refine j_iconst (pc := 10) (v := 0) hK dX0_came_10 (by decide) ?_
  refine j_ist7 (pc := 11) hK dX0_came_11 (by decide) rfl ?_
  refine J.mono (P' := XI Γ L f g T TT) (fun h w => xi_close w rfl r0 trivial) ?_
  exact loop m 0 L f g 0 (by omega) rfl hN es esz rfl
end P97
