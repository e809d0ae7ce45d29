/-! copies of arrays -/
set_option maxRecDepth 100000
section EG
variable {Γ : Gam} {A : Nat → Prop} {K : JC} {cc : ByteArray} {nL : Nat} {own : String} {hh : List (Nat × Nat × Nat × Nat)} {pc : Nat} {ls : List (Option Value)} {st : List Value} {P P' : PH → Prop} {cs ss d mc ms : Nat} {ret : Option FieldType} {Φ : Outcome → PH → Prop}
theorem Rp.putL {h : PH} {Hs H H' : Heap} {locs M : List Loc} {a : Nat} {e0 e : va_E} (hR : Rp Γ A h Hs H locs) (he : h a = some e0) (z : H'.size = H.size) (o : ∀ q, q ≠ a → H'[q]? = H[q]?) (hv : va_at (gD Γ) vwCl (a, e) H') (hM : ∀ q ∈ M, q.base = a) : Rp Γ A (pu h a e) Hs H' (locs ++ M) := by
  have hA := (hR.1 a e0 he).2
  obtain ⟨r1, r2, r3, r4, r5⟩ := hR.put (i := 0) he z o hv
  refine ⟨r1, r2, r3, fun q hq => ?_, r5⟩
  rcases List.mem_append.mp hq with w | w
  · exact hR.2.2.2.1 q w
  · rw [hM q w]; exact hA
theorem clampI {z : Int32} (hz : ¬ z < 0) : z.toInt = (z.toNatClampNeg : Int) := by
  have hz0 : (0 : Int) ≤ z.toInt := by
    have := Int32.not_lt.mp hz
    simpa using Int32.le_iff_toInt_le.mp this
  show z.toInt = ((z.toInt.toNat : Nat) : Int)
  omega
theorem j_acopy {a0 a1 idx t : Nat} {ty : FieldType} {sp dp n : Int32} (hK : Jok Γ A K cc nL own hh) (hQ : Kq Γ A K d mc ms ret Φ) (ht : (tysL (gA Γ))[t]? = some (gA Γ t, ty)) (hprim : refKind ty = false) (hlink : Cond.methodLink own idx arraycopyName ∈ lw_all) (hd : decode cc pc = .ok (.invokestatic idx, 3)) (h1 : ¬ sp < 0) (h2 : ¬ dp < 0) (h3 : ¬ n < 0) (hd1 : 1 ≤ d) (hw : (st.map fun v => v.category).sum + (nativeFrameWords "java/lang/System" "arraycopy" 5 + 11) ≤ 60 * d)
    (hv : ∀ h, P h → ∃ (n0 n1 : Nat) (F G G' : Nat → Int32), h a0 = some (.inl (gA Γ t, n0, .inl F)) ∧ h a1 = some (.inl (gA Γ t, n1, .inl G)) ∧ sp.toNatClampNeg + n.toNatClampNeg ≤ n0 ∧ dp.toNatClampNeg + n.toNatClampNeg ≤ n1 ∧ (∀ i, i < n.toNatClampNeg → fits ty (.int (F (sp.toNatClampNeg + i))) = true) ∧ (∀ j, j < n1 → va_cpy F G sp.toNatClampNeg dp.toNatClampNeg n.toNatClampNeg j = G' j) ∧ P' (pu h a1 (.inl (gA Γ t, n1, .inl G'))))
    (kk : J Γ A K (pc + 3) ls st P' cs ss) : J Γ A K pc ls (.int n :: .int dp :: .ref a1 :: .int sp :: .ref a0 :: st) P cs ss := fun h H locs arr hP hR hL T hT X => by
  obtain ⟨n0, n1, F, G, G', e0, e1, b0, b1, hfit, hG, hP'⟩ := hv h hP
  have hc0 : H[a0]? = some (vp_cell (gA Γ t) (n0, .inl F)) := (hR.1 _ _ e0).1
  have hc1 : H[a1]? = some (vp_cell (gA Γ t) (n1, .inl G)) := (hR.1 _ _ e1).1
  obtain ⟨-, k0, hk0, cm0, hkk0⟩ := (hK.k.2 t _ ht).1 n0 (fun j => .int (F j))
  obtain ⟨-, k1, hk1, cm1, hkk1⟩ := (hK.k.2 t _ ht).1 n1 (fun j => .int (G j))
  obtain ⟨vm', X', step⟩ := X.arraycopy hK.x hK.own (hK.ts _ hlink) (hK.ts (Cond.native arraycopyName) q938) (hK.ts (Cond.static arraycopyName) q937) (hK.ts _ q95) (src := a0) (dst := a1) (cs := vp_cell (gA Γ t) (n0, .inl F)) (cd := vp_cell (gA Γ t) (n1, .inl G)) (srcPos := sp) (destPos := dp) (n := n) (by rw [hT]; exact hc0) (by rw [hT]; exact hc1)
    (fun _ h => by cases h) (fun _ h => by cases h) (fun h => by cases h) (fun h => by cases h) hk0 hk1 hkk0 hkk1 (by simp [hprim]) h1 h2 h3
    (by rw [clampI h1, clampI h3]; show ¬ _ > ((arrV (gA Γ t) n0 (fun j => .int (F j))).slots.size : Int); rw [arrV_size]; omega)
    (by rw [clampI h2, clampI h3]; show ¬ _ > ((arrV (gA Γ t) n1 (fun j => .int (G j))).slots.size : Int); rw [arrV_size]; omega)
    (fun vm₁ _ i hi => by
      have e : (vp_cell (gA Γ t) (n0, .inl F)).slots.getD (sp.toNatClampNeg + i) .null = .int (F (sp.toNatClampNeg + i)) := by
        show (arrV (gA Γ t) n0 (fun j => .int (F j))).slots.getD _ _ = _
        rw [Array.getD_eq_getD_getElem?, arrV_read _ _ (by omega)]
        rfl
      refine ⟨?_, ?_⟩
      · rw [e]
        exact hfit i hi
      · rw [e]
        exact trivial)
    (g := F0 (km K) pc arr (.int n :: .int dp :: .ref a1 :: .int sp :: .ref a0 :: st)) rfl hL.1 (rest := st) rfl (by rw [hK.b]; exact hd) (by rw [hQ.1]; exact hd1) (by rw [hQ.1]; show 2 * 0 + _ + _ ≤ 60 * d; omega)
  have e2 : copied (vp_cell (gA Γ t) (n0, .inl F)) (vp_cell (gA Γ t) (n1, .inl G)) sp dp n = vp_cell (gA Γ t) (n1, .inl (va_cpy F G sp.toNatClampNeg dp.toNatClampNeg n.toNatClampNeg)) := va_copied (fun z => .int z) (gA Γ t) (gA Γ t) F G b0
  rw [e2, vpcell_eq hG] at X' step
  have hl : a1 < H.size := (Array.getElem?_eq_some_iff.mp hc1).1
  have hheap : ((T.setVm vm').setCell a1 (vp_cell (gA Γ t) (n1, .inl G'))).heap = H.setIfInBounds a1 (vp_cell (gA Γ t) (n1, .inl G')) := by rw [← hT]; rfl
  have oq : ∀ q : Nat, q ≠ a1 → (H.setIfInBounds a1 (vp_cell (gA Γ t) (n1, .inl G')))[q]? = H[q]? := fun q hq => by simp [Array.getElem?_setIfInBounds, Ne.symm hq]
  obtain ⟨t', a1', b1'⟩ := kk _ _ _ arr hP' (hR.putL e1 (by simp) oq (by show (H.setIfInBounds a1 _)[a1]? = some _; simp [Array.getElem?_setIfInBounds, hl]) (fun q hq => by
    obtain ⟨z, -, hz⟩ := List.mem_map.mp hq
    rw [← hz])) hL _ hheap X'
  exact ⟨t', step t' a1', b1'⟩
end EG
section XCP
variable {Γ : Gam} {A : Nat → Prop} {K : JC} {cc : ByteArray} {nL : Nat} {own : String} {hh : List (Nat × Nat × Nat × Nat)} {pc : Nat} {ls : List (Option Value)} {st : List Value} {cs ss d mc ms : Nat} {ret : Option FieldType} {Φ : Outcome → PH → Prop} {L : Nat → Nat} {f f' : Nat → Int32} {g g' : Nat → Int32 → Int32} {T : TX} {φ φ' : XD → Prop}
/-- a row of X becomes as another -/
def xcpA (x : XD) (k k0 : Nat) : XD := (x.1, (fun k' j => if k' = k then x.2.1 k0 j else x.2.1 k' j), x.2.2)
theorem xcpA_q {x : XD} {k k0 m : Nat} (h : m ≠ k) : (xcpA x k k0).q m = x.q m := funext fun j => if_neg h
theorem xcpA_s {x : XD} {k k0 : Nat} : (xcpA x k k0).q k = x.q k0 := funext fun j => if_pos rfl
theorem xcs_cp {x : XD} {tm k k0 k' : Nat} (h36 : k ≠ 36) (h37 : k ≠ 37) (h38 : k ≠ 38) (h39 : k ≠ 39) (h : k' ≠ k) : xcs Γ L (xcpA x k k0) tm k' = xcs Γ L x tm k' := by
  unfold xcs
  rw [xcpA_q h, xcpA_q h36.symm, xcpA_q h37.symm, xcpA_q h38.symm, xcpA_q h39.symm]
  rfl
/-- a whole row of ints is copied upon another of the same length -/
theorem xi_copy {k k0 idx : Nat} {n : Int32} (hK : Jok Γ A K cc nL own hh) (hQ : Kq Γ A K d mc ms ret Φ) (hk : xia k = true) (hk0 : xia k0 = true) (h16 : k ≠ 16) (h160 : k0 ≠ 16) (hn : n = nI (xln k)) (hn0 : xln k = xln k0) (hput : ∀ x, XR f g x → φ x → XR f' g' (xcpA x k k0) ∧ φ' (xcpA x k k0)) (h17 : f' 17 = f 17) (hlink : Cond.methodLink own idx arraycopyName ∈ lw_all) (hd : decode cc pc = .ok (.invokestatic idx, 3)) (hd1 : 1 ≤ d) (hw : (st.map fun v => v.category).sum + (nativeFrameWords "java/lang/System" "arraycopy" 5 + 11) ≤ 60 * d) (kk : J Γ A K (pc + 3) ls st (XI Γ L f' g' T φ') cs ss) : J Γ A K pc ls (.int n :: .int 0 :: .ref (L k) :: .int 0 :: .ref (L k0) :: st) (XI Γ L f g T φ) cs ss := by
  subst hn
  have hl := xln_lt k
  refine j_acopy (t := 0) hK hQ rfl rfl hlink hd (by decide) (by decide) (nI_pos hl) hd1 hw (fun h ⟨x, w, r, t, s, e⟩ => ?_) kk
  have e0 : (0 : Int32).toNatClampNeg = 0 := by decide
  refine ⟨xln k0, xln k, fun j => x.q k0 (nI j), fun j => x.q k (nI j), fun j => x.q k0 (nI j), (w.at (xcs_a hk0)).trans (by rw [if_neg h160]), (w.at (xcs_a hk)).trans (by rw [if_neg h16]), by rw [e0, nI_clamp hl]; omega, by rw [e0, nI_clamp hl]; omega, fun i _ => rfl, fun j hj => ?_, ?_⟩
  · rw [e0, nI_clamp hl]
    unfold va_cpy
    rw [if_pos ⟨by omega, by omega⟩]
    simp
  · have h1 := w.at (xcs_a hk)
    refine ⟨xcpA x k k0, ?_, (hput x r e).1, ?_, s, (hput x r e).2⟩
    · rw [h17]
      refine w.put (by rw [xcs_a hk]; exact fun z => by cases z) ?_ (fun j hj => xcs_cp ?_ ?_ ?_ ?_ hj)
      · rw [xcs_a hk, if_neg h16, xcpA_s]
      all_goals (rintro rfl; cases hk)
    · rw [h17]
      exact t.kept (KN.putA _ h1) rfl
end XCP
