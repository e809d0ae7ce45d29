/-! the class: image and back -/
set_option maxRecDepth 100000
section P68
variable {f : Nat → Int32} {g : Nat → Int32 → Int32} {T : TX} {x : XD}
/-- the numbers of the boats, laid by -/
def imN (x : XD) : Nat → XD
  | 0 => x
  | i + 1 => xpA (imN x i) 48 (nI i) ((imN x i).q 36 (nI i))
theorem imN_p : ∀ n, (imN x n).p = x.p := by
  intro n
  induction n with
  | zero => rfl
  | succ n ih => exact ih
theorem imN_2 : ∀ n, (imN x n).2.2 = x.2.2 := by
  intro n
  induction n with
  | zero => rfl
  | succ n ih => exact ih
theorem imN_q {k : Nat} (hk : k ≠ 48) : ∀ n, (imN x n).q k = x.q k := by
  intro n
  induction n with
  | zero => rfl
  | succ n ih => exact (xpA_q hk).trans ih
theorem imN_at : ∀ n, n ≤ 7 → ∀ j, j < n → (imN x n).q 48 (nI j) = x.q 36 (nI j) := by
  intro n
  induction n with
  | zero => intro _ j hj; omega
  | succ n ih =>
    intro hn j hj
    show ug (imN x n).q 48 (nI n) _ 48 (nI j) = _
    by_cases e : j = n
    · subst e
      rw [ug_s, imN_q (by decide)]
    · rw [ug_i _ _ _ (fun z => e ((nI_eq (by omega) (by omega)).mp z))]
      exact ih (by omega) j (by omega)
theorem imgL_k {k : Nat} (hk : k ≠ 35) : ∀ n j, imgL g n k j = g k j := by
  intro n
  induction n with
  | zero => intro j; rfl
  | succ n ih =>
    intro j
    unfold imgL
    rw [ug_k _ _ _ hk, ug_k _ _ _ hk, ug_k _ _ _ hk, ug_k _ _ _ hk, ug_k _ _ _ hk, ug_k _ _ _ hk]
    exact ih j
/-- which of the boats' rows lies where in the image -/
def ixg : Nat → Nat
  | 0 => 3 | 1 => 4 | 2 => 5 | 3 => 2 | 4 => 6
  | _ => 7
theorem six_nI {i c : Nat} : 6 * nI i + nI c = nI (6 * i + c) := by
  rw [show (6 : Int32) = nI 6 by decide, nI_mul, nI_add]
theorem imgL_at : ∀ n, n ≤ 7 → ∀ i, i < n → ∀ c, c < 6 → imgL g n 35 (nI (6 * i + c)) = g (ixg c) (nI i) := by
  intro n
  induction n with
  | zero => intro _ i hi; omega
  | succ n ih =>
    intro hn i hi c hc
    have e0 : 6 * nI n = nI (6 * n) := by rw [show (6 : Int32) = nI 6 by decide, nI_mul]
    have e1 : 6 * nI n + 1 = nI (6 * n + 1) := by rw [e0, nI_1]
    have e2 : 6 * nI n + 2 = nI (6 * n + 2) := by rw [e0, show (2 : Int32) = nI 2 by decide, nI_add]
    have e3 : 6 * nI n + 3 = nI (6 * n + 3) := by rw [e0, show (3 : Int32) = nI 3 by decide, nI_add]
    have e4 : 6 * nI n + 4 = nI (6 * n + 4) := by rw [e0, show (4 : Int32) = nI 4 by decide, nI_add]
    have e5 : 6 * nI n + 5 = nI (6 * n + 5) := by rw [e0, show (5 : Int32) = nI 5 by decide, nI_add]
    have ne : ∀ a b, a < 100 → b < 100 → a ≠ b → nI a ≠ nI b := fun a b ha hb h z => h ((nI_eq (by omega) (by omega)).mp z)
    unfold imgL
    rw [e5, e4, e3, e2, e1, e0, imgL_k (by decide), imgL_k (by decide), imgL_k (by decide), imgL_k (by decide), imgL_k (by decide), imgL_k (by decide)]
    by_cases e : i = n
    · subst e
      rcases n6 hc with rfl | rfl | rfl | rfl | rfl | rfl
      · rw [ug_i _ _ _ (ne _ _ (by omega) (by omega) (by omega)), ug_i _ _ _ (ne _ _ (by omega) (by omega) (by omega)), ug_i _ _ _ (ne _ _ (by omega) (by omega) (by omega)), ug_i _ _ _ (ne _ _ (by omega) (by omega) (by omega)), ug_i _ _ _ (ne _ _ (by omega) (by omega) (by omega))]
        exact ug_s _ _ _ _
      · rw [ug_i _ _ _ (ne _ _ (by omega) (by omega) (by omega)), ug_i _ _ _ (ne _ _ (by omega) (by omega) (by omega)), ug_i _ _ _ (ne _ _ (by omega) (by omega) (by omega)), ug_i _ _ _ (ne _ _ (by omega) (by omega) (by omega))]
        exact ug_s _ _ _ _
      · rw [ug_i _ _ _ (ne _ _ (by omega) (by omega) (by omega)), ug_i _ _ _ (ne _ _ (by omega) (by omega) (by omega)), ug_i _ _ _ (ne _ _ (by omega) (by omega) (by omega))]
        exact ug_s _ _ _ _
      · rw [ug_i _ _ _ (ne _ _ (by omega) (by omega) (by omega)), ug_i _ _ _ (ne _ _ (by omega) (by omega) (by omega))]
        exact ug_s _ _ _ _
      · rw [ug_i _ _ _ (ne _ _ (by omega) (by omega) (by omega))]
        exact ug_s _ _ _ _
      · exact ug_s _ _ _ _
    · rw [ug_i _ _ _ (ne _ _ (by omega) (by omega) (by omega)), ug_i _ _ _ (ne _ _ (by omega) (by omega) (by omega)), ug_i _ _ _ (ne _ _ (by omega) (by omega) (by omega)), ug_i _ _ _ (ne _ _ (by omega) (by omega) (by omega)), ug_i _ _ _ (ne _ _ (by omega) (by omega) (by omega)), ug_i _ _ _ (ne _ _ (by omega) (by omega) (by omega))]
      exact ih (by omega) i (by omega) c hc
def imgY (f : Nat → Int32) (x : XD) (nb : Nat) : XD := xpA (xpA (xpA (xpA (xcpA (imN (xcpA (xcpA (xcpA (xcpA (xcpA x 43 1) 44 2) 45 3) 46 4) 47 5) nb) 32 7) 33 0 (f 0)) 33 1 (f 10)) 33 2 (f 14)) 33 3 (f 18)
def imgX (f : Nat → Int32) (x : XD) (nb : Nat) : XD := xpF (imgY f x nb) 30 1
theorem imgX_y {nb : Nat} : (imgX f x nb).q = (imgY f x nb).q := rfl
theorem xpA_i {k : Nat} {i j v : Int32} (h : j ≠ i) : (xpA x k i v).q k j = x.q k j := ug_i _ _ _ h
theorem xpA_s {k : Nat} {i v : Int32} : (xpA x k i v).q k i = v := ug_s _ _ _ _
theorem imgX_q {nb k : Nat} (h : k ≠ 43 ∧ k ≠ 44 ∧ k ≠ 45 ∧ k ≠ 46 ∧ k ≠ 47 ∧ k ≠ 48 ∧ k ≠ 32 ∧ k ≠ 33) : (imgX f x nb).q k = x.q k := by
  obtain ⟨h1, h2, h3, h4, h5, h6, h7, h8⟩ := h
  rw [imgX_y]
  unfold imgY
  rw [xpA_q h8, xpA_q h8, xpA_q h8, xpA_q h8, xcpA_q h7, imN_q h6, xcpA_q h5, xcpA_q h4, xcpA_q h3, xcpA_q h2, xcpA_q h1]
theorem imgX_row {nb k : Nat} (h33 : k ≠ 33) (h32 : k ≠ 32) (h48 : k ≠ 48) : (imgX f x nb).q k = (xcpA (xcpA (xcpA (xcpA (xcpA x 43 1) 44 2) 45 3) 46 4) 47 5).q k := by
  rw [imgX_y]
  unfold imgY
  rw [xpA_q h33, xpA_q h33, xpA_q h33, xpA_q h33, xcpA_q h32, imN_q h48]
theorem imgX_48 {nb i : Nat} (hn : nb ≤ 7) (hi : i < nb) : (imgX f x nb).q 48 (nI i) = x.q 36 (nI i) := by
  rw [imgX_y]
  unfold imgY
  rw [xpA_q (by decide), xpA_q (by decide), xpA_q (by decide), xpA_q (by decide), xcpA_q (by decide), imN_at nb hn i hi, xcpA_q (by decide), xcpA_q (by decide), xcpA_q (by decide), xcpA_q (by decide), xcpA_q (by decide)]
theorem imgX_n {nb : Nat} : (imgX f x nb).q 33 0 = f 0 ∧ (imgX f x nb).q 33 1 = f 10 ∧ (imgX f x nb).q 33 2 = f 14 ∧ (imgX f x nb).q 33 3 = f 18 := by
  rw [imgX_y]
  unfold imgY
  refine ⟨?_, ?_, ?_, ?_⟩
  · rw [xpA_i (by decide), xpA_i (by decide), xpA_i (by decide), xpA_s]
  · rw [xpA_i (by decide), xpA_i (by decide), xpA_s]
  · rw [xpA_i (by decide), xpA_s]
  · rw [xpA_s]
theorem imgX_l {nb : Nat} : (imgX f x nb).q 32 = x.q 7 := by
  rw [imgX_y]
  unfold imgY
  rw [xpA_q (by decide), xpA_q (by decide), xpA_q (by decide), xpA_q (by decide), xcpA_s, imN_q (by decide), xcpA_q (by decide), xcpA_q (by decide), xcpA_q (by decide), xcpA_q (by decide), xcpA_q (by decide)]
def imgG (f : Nat → Int32) (g : Nat → Int32 → Int32) (nb : Nat) : Nat → Int32 → Int32 := ug (ug (ug (ug (ug (ug (ug (ug (imgL g nb) 35 42 (f 8)) 35 43 (f 9)) 35 44 (f 10)) 35 45 (f 11)) 35 46 (f 12)) 35 47 (f 13)) 35 48 (f 14)) 35 49 (f 18)
theorem imgG_k {nb k : Nat} (hk : k ≠ 35) (j : Int32) : imgG f g nb k j = g k j := by
  unfold imgG
  rw [ug_k _ _ _ hk, ug_k _ _ _ hk, ug_k _ _ _ hk, ug_k _ _ _ hk, ug_k _ _ _ hk, ug_k _ _ _ hk, ug_k _ _ _ hk, ug_k _ _ _ hk, imgL_k hk]
theorem imgG_at {nb i c : Nat} (hn : nb ≤ 7) (hi : i < nb) (hc : c < 6) : imgG f g nb 35 (nI (6 * i + c)) = g (ixg c) (nI i) := by
  have ne : ∀ (l : Int32) (b : Nat), l = nI b → 42 ≤ b → b < 100 → nI (6 * i + c) ≠ l := fun l b hl hb hb2 z => by
    have := (nI_eq (by omega) (by omega)).mp (z.trans hl)
    omega
  unfold imgG
  rw [ug_i _ _ _ (ne 49 49 (by decide) (by decide) (by decide)), ug_i _ _ _ (ne 48 48 (by decide) (by decide) (by decide)), ug_i _ _ _ (ne 47 47 (by decide) (by decide) (by decide)), ug_i _ _ _ (ne 46 46 (by decide) (by decide) (by decide)), ug_i _ _ _ (ne 45 45 (by decide) (by decide) (by decide)), ug_i _ _ _ (ne 44 44 (by decide) (by decide) (by decide)), ug_i _ _ _ (ne 43 43 (by decide) (by decide) (by decide)), ug_i _ _ _ (ne 42 42 (by decide) (by decide) (by decide)), imgL_at nb hn i hi c hc]
theorem imgG_n {nb : Nat} : imgG f g nb 35 42 = f 8 ∧ imgG f g nb 35 43 = f 9 ∧ imgG f g nb 35 44 = f 10 ∧ imgG f g nb 35 45 = f 11 ∧ imgG f g nb 35 46 = f 12 ∧ imgG f g nb 35 47 = f 13 ∧ imgG f g nb 35 48 = f 14 ∧ imgG f g nb 35 49 = f 18 := by
  unfold imgG
  refine ⟨?_, ?_, ?_, ?_, ?_, ?_, ?_, ?_⟩ <;> repeat (first | exact ug_s _ _ _ _ | rw [ug_i _ _ _ (by decide)])
theorem xio_c : ∀ k, 43 ≤ k → k ≤ 48 → ∃ c, c < 6 ∧ xio k = nI c := by
  intro k h1 h2
  rcases (show k = 43 ∨ k = 44 ∨ k = 45 ∨ k = 46 ∨ k = 47 ∨ k = 48 by omega) with rfl | rfl | rfl | rfl | rfl | rfl
  · exact ⟨0, by decide, by decide⟩
  · exact ⟨1, by decide, by decide⟩
  · exact ⟨2, by decide, by decide⟩
  · exact ⟨4, by decide, by decide⟩
  · exact ⟨5, by decide, by decide⟩
  · exact ⟨3, by decide, by decide⟩
theorem XR.image {nb : Nat} (hn : nb ≤ 7) (e0 : f 0 = nI nb) (r : XR f g x) : XR (oImage f g nb).2.1 (imgG f g nb) (imgX f x nb) := by
  obtain ⟨r1, r2, r3, r4, r5, r6, r7⟩ := r
  have hf : ∀ m, m ≠ 33 → m ≠ 34 → (oImage f g nb).2.1 m = f m := fun m h1 h2 => by
    show upd (upd f 33 1) 34 (f 0) m = f m
    rw [upd_o h2, upd_o h1]
  have hb : ∀ b, Bo (oImage f g nb).2.1 b → Bo f b := fun b hb => ⟨hb.1, by have := hb.2; rwa [hf 0 (by decide) (by decide)] at this⟩
  have hboi : ∀ b, Bo f b → ∃ i, i < nb ∧ b = nI i := fun b hb => by
    obtain ⟨i, hi, e⟩ := nI_of (Int32.not_lt.mpr hb.1)
    refine ⟨i, ?_, e⟩
    have := hb.2
    rw [e, e0] at this
    exact (nI_ltI hi (by omega)).mp this
  refine ⟨fun k hk => ?_, fun i hi => ?_, ⟨?_, fun b h => ?_⟩, fun k hk b h => ?_, fun j h0 h1 => ?_, fun _ => ?_, fun s hs => ?_⟩
  · show upd (imN _ nb).p 30 1 k = _
    rw [imN_p]
    rcases xfd_in hk with rfl | rfl | rfl | rfl | rfl | rfl | rfl <;> first | exact r1 _ rfl | rfl
  · rw [imgX_q (by decide), r2 i hi, hf (xl i)]
    · unfold xl; split <;> decide
    · unfold xl; split <;> decide
  · show (imN _ nb).2.2.1 ≤ 7
    rw [imN_2]
    exact r3.1
  · show b.toNatClampNeg < (imN _ nb).2.2.1
    rw [imN_2]
    exact r3.2 b (hb b h)
  · have hk2 : k ≠ 43 ∧ k ≠ 44 ∧ k ≠ 45 ∧ k ≠ 46 ∧ k ≠ 47 ∧ k ≠ 48 ∧ k ≠ 32 ∧ k ≠ 33 := by
      rcases xgd_in hk with rfl | rfl | rfl | rfl | rfl | rfl | rfl <;> decide
    have hk3 : xg k ≠ 35 := by
      rcases xgd_in hk with rfl | rfl | rfl | rfl | rfl | rfl | rfl <;> decide
    rw [imgX_q hk2, imgG_k hk3]
    exact r4 k hk b (hb b h)
  · rw [imgX_q (by decide), imgG_k (by decide)]
    exact r5 j h0 (by rwa [hf 15 (by decide) (by decide)] at h1)
  · have e34 : (oImage f g nb).2.1 34 = f 0 := by
      show upd (upd f 33 1) 34 (f 0) 34 = f 0
      exact upd_s
    obtain ⟨n1, n2, n3, n4⟩ := imgX_n (f := f) (x := x) (nb := nb)
    obtain ⟨g1, g2, g3, g4, g5, g6, g7, g8⟩ := imgG_n (f := f) (g := g) (nb := nb)
    unfold XRi
    rw [e34, hf 0 (by decide) (by decide), n1, n2, n3, n4, g1, g2, g3, g4, g5, g6, g7, g8, imgX_l]
    refine ⟨by rw [e0]; exact Int32.not_lt.mp (nI_pos (by omega)), Int32.le_refl _, rfl, rfl, rfl, rfl, r2 0 (by decide), r2 1 (by decide), r2 2 (by decide), r2 3 (by decide), r2 4 (by decide), fun k h1 h2 b h3 h4 => ?_⟩
    have hbo : Bo f b := ⟨h3, h4⟩
    obtain ⟨i, hi, rfl⟩ := hboi b hbo
    rcases (show k = 43 ∨ k = 44 ∨ k = 45 ∨ k = 46 ∨ k = 47 ∨ k = 48 by omega) with rfl | rfl | rfl | rfl | rfl | rfl
    · rw [imgX_row (by decide) (by decide) (by decide), xcpA_q (by decide), xcpA_q (by decide), xcpA_q (by decide), xcpA_q (by decide), xcpA_s, show xio 43 = nI 0 by decide, six_nI, imgG_at hn hi (by decide)]
      exact r4 1 rfl _ hbo
    · rw [imgX_row (by decide) (by decide) (by decide), xcpA_q (by decide), xcpA_q (by decide), xcpA_q (by decide), xcpA_s, xcpA_q (by decide), show xio 44 = nI 1 by decide, six_nI, imgG_at hn hi (by decide)]
      exact r4 2 rfl _ hbo
    · rw [imgX_row (by decide) (by decide) (by decide), xcpA_q (by decide), xcpA_q (by decide), xcpA_s, xcpA_q (by decide), xcpA_q (by decide), show xio 45 = nI 2 by decide, six_nI, imgG_at hn hi (by decide)]
      exact r4 3 rfl _ hbo
    · rw [imgX_row (by decide) (by decide) (by decide), xcpA_q (by decide), xcpA_s, xcpA_q (by decide), xcpA_q (by decide), xcpA_q (by decide), show xio 46 = nI 4 by decide, six_nI, imgG_at hn hi (by decide)]
      exact r4 4 rfl _ hbo
    · rw [imgX_row (by decide) (by decide) (by decide), xcpA_s, xcpA_q (by decide), xcpA_q (by decide), xcpA_q (by decide), xcpA_q (by decide), show xio 47 = nI 5 by decide, six_nI, imgG_at hn hi (by decide)]
      exact r4 5 rfl _ hbo
    · have e48 := imgX_48 (f := f) (x := x) hn hi
      rw [e48, show xio 48 = nI 3 by decide, six_nI, imgG_at hn hi (by decide)]
      exact r4 36 rfl _ hbo
  · have q := r7 s hs
    unfold XRs at q ⊢
    rw [imgX_q (by decide), imgX_q (by decide), imgX_q (k := 53 + s) (by omega), imgG_k (by decide), imgG_k (by decide)]
    refine ⟨q.1, fun h => ⟨(q.2 h).1, fun i h1 h2 => ?_⟩⟩
    rw [imgG_k (by decide)]
    exact (q.2 h).2 i h1 h2
end P68
section X68
variable {Γ : Gam} {A : Nat → Prop} {L : Nat → Nat} {f : Nat → Int32} {g : Nat → Int32 → Int32} {T : TX} {P : PH → Prop}
theorem c_Ximage {nb : Nat} (hn : nb ≤ 7) (e0 : f 0 = nI nb) (hV : XV f g T) : Ct Γ A yX0_image wX0_image 3 0 0 [.ref (L 35)] (XI Γ L f g T TT) (RI (XO Γ L T (oImage f g nb))) := by
  refine Ct.of (cc := cX0_image) (nL := 2) (ret := (some .int)) (ls := [some (.ref (L 35)), none]) rfl rfl rfl (nle rfl) ?_
  intro K hK hQ
  refine xi_open fun x r _ => ?_
  have r' := r.image hn e0
  obtain ⟨r1, r2, r3, r4, -⟩ := r
  have loop : ∀ (r i : Nat), i + r = nb → J Γ A K 87 [some (.ref (L 35)), some (.int (nI i))] [] (XC Γ L T (f 17).toNatClampNeg (imN (xcpA (xcpA (xcpA (xcpA (xcpA x 43 1) 44 2) 45 3) 46 4) 47 5) i)) 0 0 := by
    intro r
    have p6 : ∀ i, (imN (xcpA (xcpA (xcpA (xcpA (xcpA x 43 1) 44 2) 45 3) 46 4) 47 5) i).p = x.p := fun i => imN_p i
    induction r with
    | zero =>
      intro i hi
      have : i = nb := by omega
      subst this
      refine j_iload_n (pc := 87) hK dX0_image_87 rfl ?_
      refine j_aload_n (pc := 88) hK dX0_image_88 rfl ?_
      refine xc_get (pc := 89) (k := 6) (v := f 0) hK (fun _ w => w) (by decide) rfl (by rw [p6]; exact r1 6 rfl) q754 rfl dX0_image_89 ?_
      refine j_icmp_ge (pc := 92) (tgt := 118) hK dX0_image_92 (by decide) (fun c92 => ?_) (fun c92 => absurd (by rw [e0]; exact Int32.le_refl _) c92)
      refine j_aload_n (pc := 118) hK dX0_image_118 rfl ?_
      refine xc_getR (pc := 119) (k := 7) hK (fun _ w => w) (by decide) rfl q756 rfl dX0_image_119 ?_
      refine j_iconst (pc := 122) (v := 0) hK dX0_image_122 (by decide) ?_
      refine j_aload_n (pc := 123) hK dX0_image_123 rfl ?_
      refine xc_getR (pc := 124) (k := 32) hK (fun _ w => w) (by decide) rfl q783 rfl dX0_image_124 ?_
      refine j_iconst (pc := 127) (v := 0) hK dX0_image_127 (by decide) ?_
      refine j_iconst (pc := 128) (v := 5) hK dX0_image_128 (by decide) ?_
      refine xc_copy (pc := 129) (k := 32) (k0 := 7) hK hQ rfl rfl (by decide) (by decide) (by decide) rfl q936 dX0_image_129 (by decide) (by decide) ?_
      refine j_aload_n (pc := 132) hK dX0_image_132 rfl ?_
      refine xc_getR (pc := 133) (k := 33) hK (fun _ w => w) (by decide) rfl q784 rfl dX0_image_133 ?_
      refine j_iconst (pc := 136) (v := 0) hK dX0_image_136 (by decide) ?_
      refine j_aload_n (pc := 137) hK dX0_image_137 rfl ?_
      refine xc_get (pc := 138) (k := 6) (v := f 0) hK (fun _ w => w) (by decide) rfl (by show (imN _ _).p 6 = _; rw [p6]; exact r1 6 rfl) q754 rfl dX0_image_138 ?_
      refine xc_ast (pc := 141) (k := 33) hK rfl (by decide) (vp_in_c (by decide)) dX0_image_141 ?_
      refine j_aload_n (pc := 142) hK dX0_image_142 rfl ?_
      refine xc_getR (pc := 143) (k := 33) hK (fun _ w => w) (by decide) rfl q784 rfl dX0_image_143 ?_
      refine j_iconst (pc := 146) (v := 1) hK dX0_image_146 (by decide) ?_
      refine j_aload_n (pc := 147) hK dX0_image_147 rfl ?_
      refine xc_get (pc := 148) (k := 8) (v := f 10) hK (fun _ w => w) (by decide) rfl (by show (imN _ _).p 8 = _; rw [p6]; exact r1 8 rfl) q758 rfl dX0_image_148 ?_
      refine xc_ast (pc := 151) (k := 33) hK rfl (by decide) (vp_in_c (by decide)) dX0_image_151 ?_
      refine j_aload_n (pc := 152) hK dX0_image_152 rfl ?_
      refine xc_getR (pc := 153) (k := 33) hK (fun _ w => w) (by decide) rfl q784 rfl dX0_image_153 ?_
      refine j_iconst (pc := 156) (v := 2) hK dX0_image_156 (by decide) ?_
      refine j_aload_n (pc := 157) hK dX0_image_157 rfl ?_
      refine xc_get (pc := 158) (k := 9) (v := f 14) hK (fun _ w => w) (by decide) rfl (by show (imN _ _).p 9 = _; rw [p6]; exact r1 9 rfl) q759 rfl dX0_image_158 ?_
      refine xc_ast (pc := 161) (k := 33) hK rfl (by decide) (vp_in_c (by decide)) dX0_image_161 ?_
      refine j_aload_n (pc := 162) hK dX0_image_162 rfl ?_
      refine xc_getR (pc := 163) (k := 33) hK (fun _ w => w) (by decide) rfl q784 rfl dX0_image_163 ?_
      refine j_iconst (pc := 166) (v := 3) hK dX0_image_166 (by decide) ?_
      refine j_aload_n (pc := 167) hK dX0_image_167 rfl ?_
      refine xc_get (pc := 168) (k := 24) (v := f 18) hK (fun _ w => w) (by decide) rfl (by show (imN _ _).p 24 = _; rw [p6]; exact r1 24 rfl) q775 rfl dX0_image_168 ?_
      refine xc_ast (pc := 171) (k := 33) hK rfl (by decide) (vp_in_c (by decide)) dX0_image_171 ?_
      refine j_aload_n (pc := 172) hK dX0_image_172 rfl ?_
      refine j_iconst (pc := 173) (v := 1) hK dX0_image_173 (by decide) ?_
      refine xc_put (pc := 174) (k := 30) hK (by decide) rfl q781 rfl rfl rfl rfl dX0_image_174 ?_
      refine j_aload_n (pc := 177) hK dX0_image_177 rfl ?_
      refine xc_get (pc := 178) (k := 6) (v := f 0) hK (fun _ w => w) (by decide) rfl (by show (imN _ _).p 6 = _; rw [p6]; exact r1 6 rfl) q754 rfl dX0_image_178 ?_
      exact j_iret (pc := 181) hK hQ (nle rfl) (nle rfl) dX0_image_181 (fun h w => ⟨_, rfl, _, _, rfl, xi_close (f := (oImage f g i).2.1) (g := imgG f g i) (n := (f 17).toNatClampNeg) (x := imgX f x i) w rfl r' trivial⟩)
    | succ r ih =>
      intro i hi
      have hb : Bo f (nI i) := bo_nI e0 (by omega) hn
      have hnb : i < (imN (xcpA (xcpA (xcpA (xcpA (xcpA x 43 1) 44 2) 45 3) 46 4) 47 5) i).nb := by
        show i < (imN _ i).2.2.1
        rw [imN_2]
        have := r3.2 _ hb
        rwa [nI_clamp (by omega)] at this
      have hk5 : ((imN (xcpA (xcpA (xcpA (xcpA (xcpA x 43 1) 44 2) 45 3) 46 4) 47 5) i).q 37 (nI i)).toNatClampNeg ≤ 5 := by
        rw [imN_q (by decide), xcpA_q (by decide), xcpA_q (by decide), xcpA_q (by decide), xcpA_q (by decide), xcpA_q (by decide), r4 37 rfl _ hb]
        exact (hV.2.1 _ hb).k5
      refine j_iload_n (pc := 87) hK dX0_image_87 rfl ?_
      refine j_aload_n (pc := 88) hK dX0_image_88 rfl ?_
      refine xc_get (pc := 89) (k := 6) (v := f 0) hK (fun _ w => w) (by decide) rfl (by rw [p6]; exact r1 6 rfl) q754 rfl dX0_image_89 ?_
      refine j_icmp_ge (pc := 92) (tgt := 118) hK dX0_image_92 (by decide) (fun c92 => absurd c92 (by rw [e0]; exact nI_ge (by omega) (by omega))) (fun c92 => ?_)
      refine j_aload_n (pc := 95) hK dX0_image_95 rfl ?_
      refine xc_getR (pc := 96) (k := 31) hK (fun _ w => w) (by decide) rfl q782 rfl dX0_image_96 ?_
      refine j_iconst (pc := 99) (v := 5) hK dX0_image_99 (by decide) ?_
      refine xc_irow (pc := 100) (i := 5) hK (fun _ w => w) (by decide) (by decide) dX0_image_100 ?_
      refine j_iload_n (pc := 101) hK dX0_image_101 rfl ?_
      refine j_aload_n (pc := 102) hK dX0_image_102 rfl ?_
      refine xc_getR (pc := 103) (k := 0) hK (fun _ w => w) (by decide) rfl q747 rfl dX0_image_103 ?_
      refine j_iload_n (pc := 106) hK dX0_image_106 rfl ?_
      refine xc_brow (pc := 107) hK (fun _ w => w) hnb (by omega) rfl dX0_image_107 ?_
      refine b_num (pc := 108) hK (xc_bta (fun _ w => w) hnb (by omega) hk5) q135 (Or.inl rfl) dX0_image_108 ?_
      refine xc_ast (pc := 111) (k := 48) hK rfl (by decide) (vp_in_nI (show i < 7 by omega) (by decide)) dX0_image_111 ?_
      refine j_iinc1 (pc := 112) (v := 1) hK dX0_image_112 (by decide) rfl (by decide) ?_
      refine j_goto (pc := 115) (tgt := 87) hK dX0_image_115 (by decide) ?_
      rw [nI_1]
      exact ih (i + 1) (by omega)
  refine j_aload_n (pc := 0) hK dX0_image_0 rfl ?_
  refine xc_getR (pc := 1) (k := 1) hK (fun _ w => w) (by decide) rfl q749 rfl dX0_image_1 ?_
  refine j_iconst (pc := 4) (v := 0) hK dX0_image_4 (by decide) ?_
  refine j_aload_n (pc := 5) hK dX0_image_5 rfl ?_
  refine xc_getR (pc := 6) (k := 31) hK (fun _ w => w) (by decide) rfl q782 rfl dX0_image_6 ?_
  refine j_iconst (pc := 9) (v := 0) hK dX0_image_9 (by decide) ?_
  refine xc_irow (pc := 10) (i := 0) hK (fun _ w => w) (by decide) (by decide) dX0_image_10 ?_
  refine j_iconst (pc := 11) (v := 0) hK dX0_image_11 (by decide) ?_
  refine j_bipush (pc := 12) (v := 7) hK dX0_image_12 (by decide) ?_
  refine xc_copy (pc := 14) (k := 43) (k0 := 1) hK hQ rfl rfl (by decide) (by decide) (by decide) rfl q936 dX0_image_14 (by decide) (by decide) ?_
  refine j_aload_n (pc := 17) hK dX0_image_17 rfl ?_
  refine xc_getR (pc := 18) (k := 2) hK (fun _ w => w) (by decide) rfl q750 rfl dX0_image_18 ?_
  refine j_iconst (pc := 21) (v := 0) hK dX0_image_21 (by decide) ?_
  refine j_aload_n (pc := 22) hK dX0_image_22 rfl ?_
  refine xc_getR (pc := 23) (k := 31) hK (fun _ w => w) (by decide) rfl q782 rfl dX0_image_23 ?_
  refine j_iconst (pc := 26) (v := 1) hK dX0_image_26 (by decide) ?_
  refine xc_irow (pc := 27) (i := 1) hK (fun _ w => w) (by decide) (by decide) dX0_image_27 ?_
  refine j_iconst (pc := 28) (v := 0) hK dX0_image_28 (by decide) ?_
  refine j_bipush (pc := 29) (v := 7) hK dX0_image_29 (by decide) ?_
  refine xc_copy (pc := 31) (k := 44) (k0 := 2) hK hQ rfl rfl (by decide) (by decide) (by decide) rfl q936 dX0_image_31 (by decide) (by decide) ?_
  refine j_aload_n (pc := 34) hK dX0_image_34 rfl ?_
  refine xc_getR (pc := 35) (k := 3) hK (fun _ w => w) (by decide) rfl q751 rfl dX0_image_35 ?_
  refine j_iconst (pc := 38) (v := 0) hK dX0_image_38 (by decide) ?_
  refine j_aload_n (pc := 39) hK dX0_image_39 rfl ?_
  refine xc_getR (pc := 40) (k := 31) hK (fun _ w => w) (by decide) rfl q782 rfl dX0_image_40 ?_
  refine j_iconst (pc := 43) (v := 2) hK dX0_image_43 (by decide) ?_
  refine xc_irow (pc := 44) (i := 2) hK (fun _ w => w) (by decide) (by decide) dX0_image_44 ?_
  refine j_iconst (pc := 45) (v := 0) hK dX0_image_45 (by decide) ?_
  refine j_bipush (pc := 46) (v := 7) hK dX0_image_46 (by decide) ?_
  refine xc_copy (pc := 48) (k := 45) (k0 := 3) hK hQ rfl rfl (by decide) (by decide) (by decide) rfl q936 dX0_image_48 (by decide) (by decide) ?_
  refine j_aload_n (pc := 51) hK dX0_image_51 rfl ?_
  refine xc_getR (pc := 52) (k := 4) hK (fun _ w => w) (by decide) rfl q752 rfl dX0_image_52 ?_
  refine j_iconst (pc := 55) (v := 0) hK dX0_image_55 (by decide) ?_
  refine j_aload_n (pc := 56) hK dX0_image_56 rfl ?_
  refine xc_getR (pc := 57) (k := 31) hK (fun _ w => w) (by decide) rfl q782 rfl dX0_image_57 ?_
  refine j_iconst (pc := 60) (v := 3) hK dX0_image_60 (by decide) ?_
  refine xc_irow (pc := 61) (i := 3) hK (fun _ w => w) (by decide) (by decide) dX0_image_61 ?_
  refine j_iconst (pc := 62) (v := 0) hK dX0_image_62 (by decide) ?_
  refine j_bipush (pc := 63) (v := 7) hK dX0_image_63 (by decide) ?_
  refine xc_copy (pc := 65) (k := 46) (k0 := 4) hK hQ rfl rfl (by decide) (by decide) (by decide) rfl q936 dX0_image_65 (by decide) (by decide) ?_
  refine j_aload_n (pc := 68) hK dX0_image_68 rfl ?_
  refine xc_getR (pc := 69) (k := 5) hK (fun _ w => w) (by decide) rfl q753 rfl dX0_image_69 ?_
  refine j_iconst (pc := 72) (v := 0) hK dX0_image_72 (by decide) ?_
  refine j_aload_n (pc := 73) hK dX0_image_73 rfl ?_
  refine xc_getR (pc := 74) (k := 31) hK (fun _ w => w) (by decide) rfl q782 rfl dX0_image_74 ?_
  refine j_iconst (pc := 77) (v := 4) hK dX0_image_77 (by decide) ?_
  refine xc_irow (pc := 78) (i := 4) hK (fun _ w => w) (by decide) (by decide) dX0_image_78 ?_
  refine j_iconst (pc := 79) (v := 0) hK dX0_image_79 (by decide) ?_
  refine j_bipush (pc := 80) (v := 7) hK dX0_image_80 (by decide) ?_
  refine xc_copy (pc := 82) (k := 47) (k0 := 5) hK hQ rfl rfl (by decide) (by decide) (by decide) rfl q936 dX0_image_82 (by decide) (by decide) ?_
  refine j_iconst (pc := 85) (v := 0) hK dX0_image_85 (by decide) ?_
  refine j_ist1 (pc := 86) hK dX0_image_86 (by decide) rfl ?_
  exact loop nb 0 (by omega)
end X68
