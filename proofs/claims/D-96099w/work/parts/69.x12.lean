/-! the class: back -/
set_option maxRecDepth 100000
section P69
variable {f : Nat → Int32} {g : Nat → Int32 → Int32} {T : TX} {x : XD}
def bkN (x : XD) : Nat → XD
  | 0 => x
  | i + 1 => xpA (bkN x i) 36 (nI i) ((bkN x i).q 48 (nI i))
theorem bkN_p : ∀ n, (bkN x n).p = x.p := by
  intro n
  induction n with
  | zero => rfl
  | succ n ih => exact ih
theorem bkN_2 : ∀ n, (bkN x n).2.2 = x.2.2 := by
  intro n
  induction n with
  | zero => rfl
  | succ n ih => exact ih
theorem bkN_q {k : Nat} (hk : k ≠ 36) : ∀ n, (bkN x n).q k = x.q k := by
  intro n
  induction n with
  | zero => rfl
  | succ n ih => exact (xpA_q hk).trans ih
theorem bkN_at : ∀ n, n ≤ 7 → ∀ j, j < n → (bkN x n).q 36 (nI j) = x.q 48 (nI j) := by
  intro n
  induction n with
  | zero => intro _ j hj; omega
  | succ n ih =>
    intro hn j hj
    show ug (bkN x n).q 36 (nI n) _ 36 (nI j) = _
    by_cases e : j = n
    · subst e
      rw [ug_s, bkN_q (by decide)]
    · rw [ug_i _ _ _ (fun z => e ((nI_eq (by omega) (by omega)).mp z))]
      exact ih (by omega) j (by omega)
theorem bakL_k {k : Nat} (h3 : k ≠ 3) (h4 : k ≠ 4) (h5 : k ≠ 5) (h2 : k ≠ 2) (h6 : k ≠ 6) (h7 : k ≠ 7) : ∀ n j, bakL g n k j = g k j := by
  intro n
  induction n with
  | zero => intro j; rfl
  | succ n ih =>
    intro j
    unfold bakL
    rw [ug_k _ _ _ h7, ug_k _ _ _ h6, ug_k _ _ _ h2, ug_k _ _ _ h5, ug_k _ _ _ h4, ug_k _ _ _ h3]
    exact ih j
theorem bakL_35 (n : Nat) (j : Int32) : bakL g n 35 j = g 35 j := bakL_k (by decide) (by decide) (by decide) (by decide) (by decide) (by decide) n j
theorem bakL_at : ∀ n, n ≤ 7 → ∀ i, i < n → bakL g n 3 (nI i) = g 35 (6 * nI i) ∧ bakL g n 4 (nI i) = g 35 (6 * nI i + 1) ∧ bakL g n 5 (nI i) = g 35 (6 * nI i + 2) ∧ bakL g n 2 (nI i) = g 35 (6 * nI i + 3) ∧ bakL g n 6 (nI i) = g 35 (6 * nI i + 4) ∧ bakL g n 7 (nI i) = g 35 (6 * nI i + 5) := by
  intro n
  induction n with
  | zero => intro _ i hi; omega
  | succ n ih =>
    intro hn i hi
    unfold bakL
    rw [bakL_35, bakL_35, bakL_35, bakL_35, bakL_35, bakL_35]
    by_cases e : i = n
    · subst e
      refine ⟨?_, ?_, ?_, ?_, ?_, ?_⟩
      · rw [ug_k _ _ _ (by decide), ug_k _ _ _ (by decide), ug_k _ _ _ (by decide), ug_k _ _ _ (by decide), ug_k _ _ _ (by decide), ug_s]
      · rw [ug_k _ _ _ (by decide), ug_k _ _ _ (by decide), ug_k _ _ _ (by decide), ug_k _ _ _ (by decide), ug_s]
      · rw [ug_k _ _ _ (by decide), ug_k _ _ _ (by decide), ug_k _ _ _ (by decide), ug_s]
      · rw [ug_k _ _ _ (by decide), ug_k _ _ _ (by decide), ug_s]
      · rw [ug_k _ _ _ (by decide), ug_s]
      · rw [ug_s]
    · have ne : nI i ≠ nI n := fun z => e ((nI_eq (by omega) (by omega)).mp z)
      obtain ⟨i1, i2, i3, i4, i5, i6⟩ := ih (by omega) i (by omega)
      refine ⟨?_, ?_, ?_, ?_, ?_, ?_⟩
      · rw [ug_k _ _ _ (by decide), ug_k _ _ _ (by decide), ug_k _ _ _ (by decide), ug_k _ _ _ (by decide), ug_k _ _ _ (by decide), ug_i _ _ _ ne, i1]
      · rw [ug_k _ _ _ (by decide), ug_k _ _ _ (by decide), ug_k _ _ _ (by decide), ug_k _ _ _ (by decide), ug_i _ _ _ ne, ug_k _ _ _ (by decide), i2]
      · rw [ug_k _ _ _ (by decide), ug_k _ _ _ (by decide), ug_k _ _ _ (by decide), ug_i _ _ _ ne, ug_k _ _ _ (by decide), ug_k _ _ _ (by decide), i3]
      · rw [ug_k _ _ _ (by decide), ug_k _ _ _ (by decide), ug_i _ _ _ ne, ug_k _ _ _ (by decide), ug_k _ _ _ (by decide), ug_k _ _ _ (by decide), i4]
      · rw [ug_k _ _ _ (by decide), ug_i _ _ _ ne, ug_k _ _ _ (by decide), ug_k _ _ _ (by decide), ug_k _ _ _ (by decide), ug_k _ _ _ (by decide), i5]
      · rw [ug_i _ _ _ ne, ug_k _ _ _ (by decide), ug_k _ _ _ (by decide), ug_k _ _ _ (by decide), ug_k _ _ _ (by decide), ug_k _ _ _ (by decide), i6]
def bkC (x : XD) : XD := xcpA (xcpA (xcpA (xcpA (xcpA (xcpA x 1 43) 2 44) 3 45) 4 46) 5 47) 7 32
def bkB (f : Nat → Int32) (g : Nat → Int32 → Int32) (x : XD) : XD := xpF (xpF (xpF (xpF (bkC x) 6 (f 34)) 8 (g 35 44)) 9 (g 35 48)) 24 (g 35 49)
theorem bkB_q : (bkB f g x).q = (bkC x).q := rfl
theorem bkC_q {k : Nat} (h : k ≠ 1 ∧ k ≠ 2 ∧ k ≠ 3 ∧ k ≠ 4 ∧ k ≠ 5 ∧ k ≠ 7) : (bkC x).q k = x.q k := by
  obtain ⟨h1, h2, h3, h4, h5, h7⟩ := h
  unfold bkC
  rw [xcpA_q h7, xcpA_q h5, xcpA_q h4, xcpA_q h3, xcpA_q h2, xcpA_q h1]
theorem bkC_r : (bkC x).q 1 = x.q 43 ∧ (bkC x).q 2 = x.q 44 ∧ (bkC x).q 3 = x.q 45 ∧ (bkC x).q 4 = x.q 46 ∧ (bkC x).q 5 = x.q 47 ∧ (bkC x).q 7 = x.q 32 := by
  unfold bkC
  refine ⟨?_, ?_, ?_, ?_, ?_, ?_⟩
  · rw [xcpA_q (by decide), xcpA_q (by decide), xcpA_q (by decide), xcpA_q (by decide), xcpA_q (by decide), xcpA_s]
  · rw [xcpA_q (by decide), xcpA_q (by decide), xcpA_q (by decide), xcpA_q (by decide), xcpA_s, xcpA_q (by decide)]
  · rw [xcpA_q (by decide), xcpA_q (by decide), xcpA_q (by decide), xcpA_s, xcpA_q (by decide), xcpA_q (by decide)]
  · rw [xcpA_q (by decide), xcpA_q (by decide), xcpA_s, xcpA_q (by decide), xcpA_q (by decide), xcpA_q (by decide)]
  · rw [xcpA_q (by decide), xcpA_s, xcpA_q (by decide), xcpA_q (by decide), xcpA_q (by decide), xcpA_q (by decide)]
  · rw [xcpA_s, xcpA_q (by decide), xcpA_q (by decide), xcpA_q (by decide), xcpA_q (by decide), xcpA_q (by decide)]
def bakF (f : Nat → Int32) (g : Nat → Int32 → Int32) (nb : Nat) : Nat → Int32 := upd (upd (upd (upd (upd (upd (upd (upd (upd f 0 (f 34)) 8 (bakL g nb 35 42)) 9 (bakL g nb 35 43)) 10 (bakL g nb 35 44)) 11 (bakL g nb 35 45)) 12 (bakL g nb 35 46)) 13 (bakL g nb 35 47)) 14 (bakL g nb 35 48)) 18 (bakL g nb 35 49)
theorem bakF_o {nb m : Nat} (h : m ≠ 0 ∧ m ≠ 8 ∧ m ≠ 9 ∧ m ≠ 10 ∧ m ≠ 11 ∧ m ≠ 12 ∧ m ≠ 13 ∧ m ≠ 14 ∧ m ≠ 18) : bakF f g nb m = f m := by
  obtain ⟨h0, h8, h9, h10, h11, h12, h13, h14, h18⟩ := h
  unfold bakF
  rw [upd_o h18, upd_o h14, upd_o h13, upd_o h12, upd_o h11, upd_o h10, upd_o h9, upd_o h8, upd_o h0]
theorem bakF_v {nb : Nat} : bakF f g nb 0 = f 34 ∧ bakF f g nb 8 = g 35 42 ∧ bakF f g nb 9 = g 35 43 ∧ bakF f g nb 10 = g 35 44 ∧ bakF f g nb 11 = g 35 45 ∧ bakF f g nb 12 = g 35 46 ∧ bakF f g nb 13 = g 35 47 ∧ bakF f g nb 14 = g 35 48 ∧ bakF f g nb 18 = g 35 49 := by
  unfold bakF
  rw [bakL_35, bakL_35, bakL_35, bakL_35, bakL_35, bakL_35, bakL_35, bakL_35]
  refine ⟨?_, ?_, ?_, ?_, ?_, ?_, ?_, ?_, ?_⟩ <;> repeat (first | exact upd_s | rw [upd_o (by decide)])
theorem XR.back {nb : Nat} (hn : nb ≤ 7) (e34 : f 34 = nI nb) (h33 : ¬ f 33 = 0) (r : XR f g x) : XR (bakF f g nb) (bakL g nb) (bkN (bkB f g x) nb) := by
  obtain ⟨r1, r2, r3, r4, r5, r6, r7⟩ := r
  have ri := r6 h33
  obtain ⟨i1, i2, i3, i4, i5, i6, i7, i8, i9, i10, i11, i12⟩ := ri
  obtain ⟨v0, v8, v9, v10, v11, v12, v13, v14, v18⟩ := bakF_v (f := f) (g := g) (nb := nb)
  obtain ⟨c1, c2, c3, c4, c5, c7⟩ := bkC_r (x := x)
  have hq : ∀ k, k ≠ 36 → k ≠ 1 ∧ k ≠ 2 ∧ k ≠ 3 ∧ k ≠ 4 ∧ k ≠ 5 ∧ k ≠ 7 → (bkN (bkB f g x) nb).q k = x.q k := fun k h1 h2 => by rw [bkN_q h1, bkB_q, bkC_q h2]
  have hg : ∀ k, k ≠ 3 ∧ k ≠ 4 ∧ k ≠ 5 ∧ k ≠ 2 ∧ k ≠ 6 ∧ k ≠ 7 → ∀ j, bakL g nb k j = g k j := fun k h j => bakL_k h.1 h.2.1 h.2.2.1 h.2.2.2.1 h.2.2.2.2.1 h.2.2.2.2.2 nb j
  have hbo : ∀ b, Bo (bakF f g nb) b → Bo f b ∧ ∃ i, i < nb ∧ b = nI i := fun b hb => by
    have h2 := hb.2
    rw [v0] at h2
    refine ⟨⟨hb.1, Int32.lt_of_lt_of_le h2 i2⟩, ?_⟩
    obtain ⟨i, hi, e⟩ := nI_of (Int32.not_lt.mpr hb.1)
    refine ⟨i, ?_, e⟩
    rw [e, e34] at h2
    exact (nI_ltI hi (by omega)).mp h2
  refine ⟨fun k hk => ?_, fun i hi => ?_, ⟨?_, fun b h => ?_⟩, fun k hk b h => ?_, fun j h0 h1 => ?_, fun _ => ?_, fun s hs => ?_⟩
  · rw [bkN_p]
    rcases xfd_in hk with rfl | rfl | rfl | rfl | rfl | rfl | rfl
    · exact v0.symm
    · exact v10.symm
    · exact v14.symm
    · exact (r1 13 rfl).trans (bakF_o (by decide)).symm
    · exact (r1 17 rfl).trans (bakF_o (by decide)).symm
    · exact v18.symm
    · exact (r1 30 rfl).trans (bakF_o (by decide)).symm
  · rw [bkN_q (by decide), bkB_q, c7]
    rcases (show i = 0 ∨ i = 1 ∨ i = 2 ∨ i = 3 ∨ i = 4 by omega) with rfl | rfl | rfl | rfl | rfl
    · exact i7.trans v8.symm
    · exact i8.trans v9.symm
    · exact i9.trans v11.symm
    · exact i10.trans v12.symm
    · exact i11.trans v13.symm
  · show (bkN _ nb).2.2.1 ≤ 7
    rw [bkN_2]
    exact r3.1
  · show b.toNatClampNeg < (bkN _ nb).2.2.1
    rw [bkN_2]
    exact r3.2 b (hbo b h).1
  · obtain ⟨hbf, i, hi, rfl⟩ := hbo b h
    obtain ⟨a3, a4, a5, a2, a6, a7⟩ := bakL_at (g := g) nb hn i hi
    have h34 : nI i < f 34 := by rw [e34]; exact nI_lt hi (by omega)
    have hn0 : (0 : Int32) ≤ nI i := Int32.not_lt.mp (nI_pos (by omega))
    rcases xgd_in hk with rfl | rfl | rfl | rfl | rfl | rfl | rfl
    · rw [bkN_q (by decide), bkB_q, c1, i12 43 (by decide) (by decide) _ hn0 h34, show xg 1 = 3 from rfl, a3, show xio 43 = 0 from rfl, Int32.add_zero]
    · rw [bkN_q (by decide), bkB_q, c2, i12 44 (by decide) (by decide) _ hn0 h34, show xg 2 = 4 from rfl, a4]; rfl
    · rw [bkN_q (by decide), bkB_q, c3, i12 45 (by decide) (by decide) _ hn0 h34, show xg 3 = 5 from rfl, a5]; rfl
    · rw [bkN_q (by decide), bkB_q, c4, i12 46 (by decide) (by decide) _ hn0 h34, show xg 4 = 6 from rfl, a6]; rfl
    · rw [bkN_q (by decide), bkB_q, c5, i12 47 (by decide) (by decide) _ hn0 h34, show xg 5 = 7 from rfl, a7]; rfl
    · rw [bkN_at nb hn i hi, bkB_q, bkC_q (by decide), i12 48 (by decide) (by decide) _ hn0 h34, show xg 36 = 2 from rfl, a2]; rfl
    · rw [hq 37 (by decide) (by decide), r4 37 rfl _ hbf, show xg 37 = 1 from rfl, hg 1 (by decide)]
  · rw [hq 16 (by decide) (by decide), hg 16 (by decide)]
    exact r5 j h0 (by rwa [bakF_o (by decide)] at h1)
  · unfold XRi
    rw [v0, bakF_o (m := 34) (by decide), hq 33 (by decide) (by decide), hq 32 (by decide) (by decide)]
    simp only [hg 35 (by decide)]
    refine ⟨i1, Int32.le_refl _, i3, i4, i5, i6, i7, i8, i9, i10, i11, fun k h1 h2 b h3 h4 => ?_⟩
    rw [hq k (by omega) (by omega)]
    exact i12 k h1 h2 b h3 h4
  · have q := r7 s hs
    unfold XRs at q ⊢
    rw [hq 38 (by decide) (by decide), hq 39 (by decide) (by decide), hq (53 + s) (by omega) (by omega)]
    simp only [hg 36 (by decide), hg 37 (by decide), hg 38 (by decide)]
    exact q
end P69
section X69
variable {Γ : Gam} {A : Nat → Prop} {L : Nat → Nat} {f : Nat → Int32} {g : Nat → Int32 → Int32} {T : TX} {P : PH → Prop}
theorem c_Xback {nb : Nat} (hn : nb ≤ 7) (e34 : f 34 = nI nb) (hV : XV f g T) : Ct Γ A yX0_back wX0_back 3 0 0 [.ref (L 35)] (XI Γ L f g T TT) (RI (XO Γ L T (oBack f g nb))) := by
  refine Ct.of (cc := cX0_back) (nL := 2) (ret := (some .int)) (ls := [some (.ref (L 35)), none]) rfl rfl rfl (nle rfl) ?_
  intro K hK hQ
  refine xi_open fun x r _ => ?_
  by_cases h33 : f 33 = 0
  · have hb : oBack f g nb = (-3, f, g) := if_pos h33
    refine j_aload_n (pc := 0) hK dX0_back_0 rfl ?_
    refine xc_get (pc := 1) (k := 30) (v := 0) hK (fun _ w => w) (by decide) rfl ((r.1 30 rfl).trans h33) q781 rfl dX0_back_1 ?_
    refine j_if_ne (pc := 4) (tgt := 10) hK dX0_back_4 (by decide) (fun c4 => absurd (by decide) c4) (fun c4 => ?_)
    refine j_bipush (pc := 7) (v := (-3)) hK dX0_back_7 (by decide) ?_
    exact j_iret (pc := 9) hK hQ (nle rfl) (nle rfl) dX0_back_9 (fun h w => ⟨_, rfl, _, _, hb, xi_close w rfl r trivial⟩)
  · have r' := r.back hn e34 h33
    have hbk : oBack f g nb = (f 34, bakF f g nb, bakL g nb) := if_neg h33
    obtain ⟨r1, r2, r3, r4, r5, r6, r7⟩ := r
    obtain ⟨i1, i2, i3, i4, i5, i6, i7, i8, i9, i10, i11, i12⟩ := r6 h33
    have loop : ∀ (r i : Nat), i + r = nb → J Γ A K 151 [some (.ref (L 35)), some (.int (nI i))] [] (XC Γ L T (f 17).toNatClampNeg (bkN (bkB f g x) i)) 0 0 := by
      intro r
      have p6 : ∀ i, (bkN (bkB f g x) i).p 6 = f 34 := fun i => by rw [bkN_p]; rfl
      induction r with
      | zero =>
        intro i hi
        have : i = nb := by omega
        subst this
        refine j_iload_n (pc := 151) hK dX0_back_151 rfl ?_
        refine j_aload_n (pc := 152) hK dX0_back_152 rfl ?_
        refine xc_get (pc := 153) (k := 6) (v := f 34) hK (fun _ w => w) (by decide) rfl (p6 _) q754 rfl dX0_back_153 ?_
        refine j_icmp_ge (pc := 156) (tgt := 182) hK dX0_back_156 (by decide) (fun c156 => ?_) (fun c156 => absurd (by rw [e34]; exact Int32.le_refl _) c156)
        refine j_aload_n (pc := 182) hK dX0_back_182 rfl ?_
        refine xc_get (pc := 183) (k := 6) (v := f 34) hK (fun _ w => w) (by decide) rfl (p6 _) q754 rfl dX0_back_183 ?_
        exact j_iret (pc := 186) hK hQ (nle rfl) (nle rfl) dX0_back_186 (fun h w => ⟨_, rfl, _, _, hbk, xi_close (f := bakF f g i) (g := bakL g i) (n := (f 17).toNatClampNeg) (x := bkN (bkB f g x) i) w (by rw [bakF_o (by decide)]) r' trivial⟩)
      | succ r ih =>
        intro i hi
        have hb : Bo f (nI i) := ⟨Int32.not_lt.mp (nI_pos (by omega)), Int32.lt_of_lt_of_le (by rw [e34]; exact nI_lt (by omega) (by omega)) i2⟩
        have hnb : i < (bkN (bkB f g x) i).nb := by
          show i < (bkN _ i).2.2.1
          rw [bkN_2]
          have := r3.2 _ hb
          rwa [nI_clamp (by omega)] at this
        have hk5 : ((bkN (bkB f g x) i).q 37 (nI i)).toNatClampNeg ≤ 5 := by
          rw [bkN_q (by decide), bkB_q, bkC_q (by decide), r4 37 rfl _ hb]
          exact (hV.2.1 _ hb).k5
        refine j_iload_n (pc := 151) hK dX0_back_151 rfl ?_
        refine j_aload_n (pc := 152) hK dX0_back_152 rfl ?_
        refine xc_get (pc := 153) (k := 6) (v := f 34) hK (fun _ w => w) (by decide) rfl (p6 _) q754 rfl dX0_back_153 ?_
        refine j_icmp_ge (pc := 156) (tgt := 182) hK dX0_back_156 (by decide) (fun c156 => absurd c156 (by rw [e34]; exact nI_ge (by omega) (by omega))) (fun c156 => ?_)
        refine j_aload_n (pc := 159) hK dX0_back_159 rfl ?_
        refine xc_getR (pc := 160) (k := 0) hK (fun _ w => w) (by decide) rfl q747 rfl dX0_back_160 ?_
        refine j_iload_n (pc := 163) hK dX0_back_163 rfl ?_
        refine xc_brow (pc := 164) hK (fun _ w => w) hnb (by omega) rfl dX0_back_164 ?_
        refine j_aload_n (pc := 165) hK dX0_back_165 rfl ?_
        refine xc_getR (pc := 166) (k := 31) hK (fun _ w => w) (by decide) rfl q782 rfl dX0_back_166 ?_
        refine j_iconst (pc := 169) (v := 5) hK dX0_back_169 (by decide) ?_
        refine xc_irow (pc := 170) (i := 5) hK (fun _ w => w) (by decide) (by decide) dX0_back_170 ?_
        refine j_iload_n (pc := 171) hK dX0_back_171 rfl ?_
        refine xc_ald (pc := 172) (k := 48) hK (fun _ w => w) rfl (by decide) (vp_in_nI (show i < 7 by omega) (by decide)) rfl dX0_back_172 ?_
        refine xc_pnum (pc := 173) hK hnb (by omega) hk5 q135 (Or.inl rfl) dX0_back_173 ?_
        refine j_iinc1 (pc := 176) (v := 1) hK dX0_back_176 (by decide) rfl (by decide) ?_
        refine j_goto (pc := 179) (tgt := 151) hK dX0_back_179 (by decide) ?_
        rw [nI_1]
        exact ih (i + 1) (by omega)
    refine j_aload_n (pc := 0) hK dX0_back_0 rfl ?_
    refine xc_get (pc := 1) (k := 30) (v := f 33) hK (fun _ w => w) (by decide) rfl (r1 30 rfl) q781 rfl dX0_back_1 ?_
    refine j_if_ne (pc := 4) (tgt := 10) hK dX0_back_4 (by decide) (fun c4 => ?_) (fun c4 => absurd c4 h33)
    refine j_aload_n (pc := 10) hK dX0_back_10 rfl ?_
    refine xc_getR (pc := 11) (k := 31) hK (fun _ w => w) (by decide) rfl q782 rfl dX0_back_11 ?_
    refine j_iconst (pc := 14) (v := 0) hK dX0_back_14 (by decide) ?_
    refine xc_irow (pc := 15) (i := 0) hK (fun _ w => w) (by decide) (by decide) dX0_back_15 ?_
    refine j_iconst (pc := 16) (v := 0) hK dX0_back_16 (by decide) ?_
    refine j_aload_n (pc := 17) hK dX0_back_17 rfl ?_
    refine xc_getR (pc := 18) (k := 1) hK (fun _ w => w) (by decide) rfl q749 rfl dX0_back_18 ?_
    refine j_iconst (pc := 21) (v := 0) hK dX0_back_21 (by decide) ?_
    refine j_bipush (pc := 22) (v := 7) hK dX0_back_22 (by decide) ?_
    refine xc_copy (pc := 24) (k := 1) (k0 := 43) hK hQ rfl rfl (by decide) (by decide) (by decide) rfl q936 dX0_back_24 (by decide) (by decide) ?_
    refine j_aload_n (pc := 27) hK dX0_back_27 rfl ?_
    refine xc_getR (pc := 28) (k := 31) hK (fun _ w => w) (by decide) rfl q782 rfl dX0_back_28 ?_
    refine j_iconst (pc := 31) (v := 1) hK dX0_back_31 (by decide) ?_
    refine xc_irow (pc := 32) (i := 1) hK (fun _ w => w) (by decide) (by decide) dX0_back_32 ?_
    refine j_iconst (pc := 33) (v := 0) hK dX0_back_33 (by decide) ?_
    refine j_aload_n (pc := 34) hK dX0_back_34 rfl ?_
    refine xc_getR (pc := 35) (k := 2) hK (fun _ w => w) (by decide) rfl q750 rfl dX0_back_35 ?_
    refine j_iconst (pc := 38) (v := 0) hK dX0_back_38 (by decide) ?_
    refine j_bipush (pc := 39) (v := 7) hK dX0_back_39 (by decide) ?_
    refine xc_copy (pc := 41) (k := 2) (k0 := 44) hK hQ rfl rfl (by decide) (by decide) (by decide) rfl q936 dX0_back_41 (by decide) (by decide) ?_
    refine j_aload_n (pc := 44) hK dX0_back_44 rfl ?_
    refine xc_getR (pc := 45) (k := 31) hK (fun _ w => w) (by decide) rfl q782 rfl dX0_back_45 ?_
    refine j_iconst (pc := 48) (v := 2) hK dX0_back_48 (by decide) ?_
    refine xc_irow (pc := 49) (i := 2) hK (fun _ w => w) (by decide) (by decide) dX0_back_49 ?_
    refine j_iconst (pc := 50) (v := 0) hK dX0_back_50 (by decide) ?_
    refine j_aload_n (pc := 51) hK dX0_back_51 rfl ?_
    refine xc_getR (pc := 52) (k := 3) hK (fun _ w => w) (by decide) rfl q751 rfl dX0_back_52 ?_
    refine j_iconst (pc := 55) (v := 0) hK dX0_back_55 (by decide) ?_
    refine j_bipush (pc := 56) (v := 7) hK dX0_back_56 (by decide) ?_
    refine xc_copy (pc := 58) (k := 3) (k0 := 45) hK hQ rfl rfl (by decide) (by decide) (by decide) rfl q936 dX0_back_58 (by decide) (by decide) ?_
    refine j_aload_n (pc := 61) hK dX0_back_61 rfl ?_
    refine xc_getR (pc := 62) (k := 31) hK (fun _ w => w) (by decide) rfl q782 rfl dX0_back_62 ?_
    refine j_iconst (pc := 65) (v := 3) hK dX0_back_65 (by decide) ?_
    refine xc_irow (pc := 66) (i := 3) hK (fun _ w => w) (by decide) (by decide) dX0_back_66 ?_
    refine j_iconst (pc := 67) (v := 0) hK dX0_back_67 (by decide) ?_
    refine j_aload_n (pc := 68) hK dX0_back_68 rfl ?_
    refine xc_getR (pc := 69) (k := 4) hK (fun _ w => w) (by decide) rfl q752 rfl dX0_back_69 ?_
    refine j_iconst (pc := 72) (v := 0) hK dX0_back_72 (by decide) ?_
    refine j_bipush (pc := 73) (v := 7) hK dX0_back_73 (by decide) ?_
    refine xc_copy (pc := 75) (k := 4) (k0 := 46) hK hQ rfl rfl (by decide) (by decide) (by decide) rfl q936 dX0_back_75 (by decide) (by decide) ?_
    refine j_aload_n (pc := 78) hK dX0_back_78 rfl ?_
    refine xc_getR (pc := 79) (k := 31) hK (fun _ w => w) (by decide) rfl q782 rfl dX0_back_79 ?_
    refine j_iconst (pc := 82) (v := 4) hK dX0_back_82 (by decide) ?_
    refine xc_irow (pc := 83) (i := 4) hK (fun _ w => w) (by decide) (by decide) dX0_back_83 ?_
    refine j_iconst (pc := 84) (v := 0) hK dX0_back_84 (by decide) ?_
    refine j_aload_n (pc := 85) hK dX0_back_85 rfl ?_
    refine xc_getR (pc := 86) (k := 5) hK (fun _ w => w) (by decide) rfl q753 rfl dX0_back_86 ?_
    refine j_iconst (pc := 89) (v := 0) hK dX0_back_89 (by decide) ?_
    refine j_bipush (pc := 90) (v := 7) hK dX0_back_90 (by decide) ?_
    refine xc_copy (pc := 92) (k := 5) (k0 := 47) hK hQ rfl rfl (by decide) (by decide) (by decide) rfl q936 dX0_back_92 (by decide) (by decide) ?_
    refine j_aload_n (pc := 95) hK dX0_back_95 rfl ?_
    refine xc_getR (pc := 96) (k := 32) hK (fun _ w => w) (by decide) rfl q783 rfl dX0_back_96 ?_
    refine j_iconst (pc := 99) (v := 0) hK dX0_back_99 (by decide) ?_
    refine j_aload_n (pc := 100) hK dX0_back_100 rfl ?_
    refine xc_getR (pc := 101) (k := 7) hK (fun _ w => w) (by decide) rfl q756 rfl dX0_back_101 ?_
    refine j_iconst (pc := 104) (v := 0) hK dX0_back_104 (by decide) ?_
    refine j_iconst (pc := 105) (v := 5) hK dX0_back_105 (by decide) ?_
    refine xc_copy (pc := 106) (k := 7) (k0 := 32) hK hQ rfl rfl (by decide) (by decide) (by decide) rfl q936 dX0_back_106 (by decide) (by decide) ?_
    refine j_aload_n (pc := 109) hK dX0_back_109 rfl ?_
    refine j_aload_n (pc := 110) hK dX0_back_110 rfl ?_
    refine xc_getR (pc := 111) (k := 33) hK (fun _ w => w) (by decide) rfl q784 rfl dX0_back_111 ?_
    refine j_iconst (pc := 114) (v := 0) hK dX0_back_114 (by decide) ?_
    refine xc_ald (pc := 115) (k := 33) (v := f 34) hK (fun _ w => w) rfl (by decide) (vp_in_c (by decide)) i3 dX0_back_115 ?_
    refine xc_put (pc := 116) (k := 6) hK (by decide) rfl q754 rfl rfl rfl rfl dX0_back_116 ?_
    refine j_aload_n (pc := 119) hK dX0_back_119 rfl ?_
    refine j_aload_n (pc := 120) hK dX0_back_120 rfl ?_
    refine xc_getR (pc := 121) (k := 33) hK (fun _ w => w) (by decide) rfl q784 rfl dX0_back_121 ?_
    refine j_iconst (pc := 124) (v := 1) hK dX0_back_124 (by decide) ?_
    refine xc_ald (pc := 125) (k := 33) (v := g 35 44) hK (fun _ w => w) rfl (by decide) (vp_in_c (by decide)) i4 dX0_back_125 ?_
    refine xc_put (pc := 126) (k := 8) hK (by decide) rfl q758 rfl rfl rfl rfl dX0_back_126 ?_
    refine j_aload_n (pc := 129) hK dX0_back_129 rfl ?_
    refine j_aload_n (pc := 130) hK dX0_back_130 rfl ?_
    refine xc_getR (pc := 131) (k := 33) hK (fun _ w => w) (by decide) rfl q784 rfl dX0_back_131 ?_
    refine j_iconst (pc := 134) (v := 2) hK dX0_back_134 (by decide) ?_
    refine xc_ald (pc := 135) (k := 33) (v := g 35 48) hK (fun _ w => w) rfl (by decide) (vp_in_c (by decide)) i5 dX0_back_135 ?_
    refine xc_put (pc := 136) (k := 9) hK (by decide) rfl q759 rfl rfl rfl rfl dX0_back_136 ?_
    refine j_aload_n (pc := 139) hK dX0_back_139 rfl ?_
    refine j_aload_n (pc := 140) hK dX0_back_140 rfl ?_
    refine xc_getR (pc := 141) (k := 33) hK (fun _ w => w) (by decide) rfl q784 rfl dX0_back_141 ?_
    refine j_iconst (pc := 144) (v := 3) hK dX0_back_144 (by decide) ?_
    refine xc_ald (pc := 145) (k := 33) (v := g 35 49) hK (fun _ w => w) rfl (by decide) (vp_in_c (by decide)) i6 dX0_back_145 ?_
    refine xc_put (pc := 146) (k := 24) hK (by decide) rfl q775 rfl rfl rfl rfl dX0_back_146 ?_
    refine j_iconst (pc := 149) (v := 0) hK dX0_back_149 (by decide) ?_
    refine j_ist1 (pc := 150) hK dX0_back_150 (by decide) rfl ?_
    exact loop nb 0 (by omega)
end X69
