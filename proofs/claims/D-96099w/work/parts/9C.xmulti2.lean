/-! an array of arrays of ints at one stroke: the row -/
set_option maxRecDepth 100000
section MV
variable {Γ : Gam} {A : Nat → Prop} {K : JC} {cc : ByteArray} {nL : Nat} {own : String} {hh : List (Nat × Nat × Nat × Nat)} {pc : Nat} {ls : List (Option Value)} {st : List Value} {P P' : PH → Prop} {cs ss d mc ms : Nat} {ret : Option FieldType} {Φ : Outcome → PH → Prop}
/-- beside P: the row of N rows at a, the rows of M ints behind it -/
def MuP (Γ : Gam) (P : PH → Prop) (a N M : Nat) (h : PH) : Prop := ∃ h0, P h0 ∧ (∀ j, j ≤ N → h0 (a + j) = none) ∧ (∀ q, (q < a ∨ a + N < q) → h q = h0 q) ∧ h a = some (.inl (gA Γ 7, N, rfA fun j => some (a + 1 + j))) ∧ ∀ j, j < N → h (a + 1 + j) = some (.inl (gA Γ 0, M, .inl fun _ => 0))
theorem mso_full (c : ClassId) (N h0 : Nat) : mso c N h0 N = vp_cell c (N, rfA fun j => some (h0 + 1 + j)) := by
  rw [vp_cell_q]
  unfold mso
  exact arrV_congr fun j hj => by rw [if_pos hj]; rfl
theorem j_multi {idx N M : Nat} {n m : Int32} (hK : Jok Γ A K cc nL own hh) (hQ : Kq Γ A K d mc ms ret Φ) (hcl : Cond.classLink own idx "[[I" ∈ lw_all) (hov : Cond.arrayOver (.array .int) ∈ lw_tbl) (harr : Cond.arrayClass .int ∈ lw_all) (hn : ¬ n < 0) (hm : ¬ m < 0) (eN : n.toNatClampNeg = N) (eM : m.toNatClampNeg = M) (hb1 : N ≤ 1000) (hb2 : M ≤ 1000) (h1 : cs + (1 + N) ≤ mc) (h2 : ss + (N + N * M) ≤ ms) (hd : decode cc pc = .ok (.multianewarray idx 2, 4))
    (kk : ∀ a, J Γ A K (pc + 4) ls (.ref a :: st) (MuP Γ P a N M) (cs + 1 + N) (ss + N + N * M)) : J Γ A K pc ls (.int m :: .int n :: st) P cs ss := fun h H locs arr hP hR hL T hT X => by
  subst hT
  subst eN
  subst eM
  have hkR : kR K = rmD d mc ms := hQ.1
  have hov' : (Cond.arrayOver (.array .int)).before (ka K) (ks K) = true := overA_moved hK.warm.alike (hK.g.1 _ hov)
  obtain ⟨comp, cA, kA, hcomp, hidx, hkA, hkindA, hnameA⟩ := arrayOverA_spec hov'
  obtain ⟨comp', kC, cC, hcomp', hkC, hkindC⟩ := Cond.arrayClass_spec (hK.ts _ harr)
  have ecomp : comp' = comp := Option.some.inj (hcomp'.symm.trans hcomp)
  subst ecomp
  have hpl : (ke K).platform.magicAccessors = ({} : Platform).magicAccessors := by rw [X.admits.platform]
  obtain ⟨c0, hfc0, hcl0⟩ := Cond.classLink_spec hK.own (hK.ts _ hcl) (ke K).platform hpl
  have eS : "[" ++ (FieldType.array .int).toString = "[[I" := by decide +kernel
  have e7 : cA = gA Γ 7 := Option.some.inj (hnameA.symm.trans (hK.k.2 7 _ rfl).2)
  have e0 : comp' = gA Γ 0 := Option.some.inj (hcomp.symm.trans (hK.k.2 0 _ rfl).2)
  rw [eS] at hnameA
  cases hnameA.symm.trans hfc0
  subst e7
  subst e0
  obtain ⟨hg₁, hwarm₁, hready₁⟩ := State.classEntry (e := ke K) X.warmed hcl0
  generalize T.vm.noted (km K).cls idx (.cls (gA Γ 7)) = vm₁ at hg₁ hwarm₁ hready₁
  have hal : (ks K).vm.Alike vm₁ := hwarm₁.alike
  obtain ⟨kA₁, hkA₁, heA⟩ := hal.2.2 _ _ hkA
  obtain ⟨kC₁, hkC₁, heC⟩ := hal.2.2 _ _ hkC
  have hkindA₁ : kA₁.kind = .array (gA Γ 0) (.array .int) := by rw [heA]; exact hkindA
  have hkindC₁ : kC₁.kind = .array cC .int := by rw [heC]; exact hkindC
  have X₁ := X.noted hwarm₁
  obtain ⟨L2, XF, hL2⟩ := mst_stand X₁ (gA Γ 7) (gA Γ 0) n.toNatClampNeg m.toNatClampNeg n.toNatClampNeg
  obtain ⟨f1, f2, f3, f4, f5, f6⟩ := mst_facts (T.setVm vm₁) (gA Γ 7) (gA Γ 0) n.toNatClampNeg m.toNatClampNeg n.toNatClampNeg
  have hsz : (T.setVm vm₁).heap = T.heap := rfl
  rw [hsz] at f1 f2 f5 f6 hL2
  rw [mso_full] at f2
  obtain ⟨hr1, hr2⟩ := X.roomAbove (a := 1 + n.toNatClampNeg) (b := n.toNatClampNeg + n.toNatClampNeg * m.toNatClampNeg) (by rw [hkR]; exact h1) (by rw [hkR]; exact h2)
  have hA : ∀ q, T.heap.size ≤ q → A q := fun q hq => hK.a.1 q (Nat.le_trans hR.2.1 hq)
  have hfr : ∀ q, T.heap.size ≤ q → h q = none := fun q hq => by
    cases e : h q with
    | none => rfl
    | some x => exact absurd (hR.1 _ x e).1.lt (by omega)
  generalize hS : mst (T.setVm vm₁) (gA Γ 7) (gA Γ 0) n.toNatClampNeg m.toNatClampNeg n.toNatClampNeg = S at XF f1 f2 f3 f4 f5 f6
  have w : MuP Γ P T.heap.size n.toNatClampNeg m.toNatClampNeg (fun q => if q < T.heap.size ∨ T.heap.size + n.toNatClampNeg < q then h q else if q = T.heap.size then some (.inl (gA Γ 7, n.toNatClampNeg, rfA fun j => some (T.heap.size + 1 + j))) else some (.inl (gA Γ 0, m.toNatClampNeg, .inl fun _ => 0))) := by
    refine ⟨h, hP, fun j _ => hfr _ (by omega), fun q hq => if_pos hq, ?_, fun j hj => ?_⟩
    · show (if _ then _ else if _ then _ else _) = _
      rw [if_neg (by omega), if_pos rfl]
    · show (if _ then _ else if _ then _ else _) = _
      rw [if_neg (by omega), if_neg (by omega)]
  have hR2 : Rp Γ A (fun q => if q < T.heap.size ∨ T.heap.size + n.toNatClampNeg < q then h q else if q = T.heap.size then some (.inl (gA Γ 7, n.toNatClampNeg, rfA fun j => some (T.heap.size + 1 + j))) else some (.inl (gA Γ 0, m.toNatClampNeg, .inl fun _ => 0))) (ks K).heap S.heap (locs ++ L2) := by
    refine ⟨fun b x hb => ?_, by rw [f1]; have := hR.2.1; omega, fun q hq => ?_, fun q hq => ?_, fun q c hq hc => ?_⟩
    · by_cases z1 : b < T.heap.size ∨ T.heap.size + n.toNatClampNeg < b
      · have hb' : h b = some x := by rw [← hb]; exact (if_pos z1).symm
        obtain ⟨a1, a2⟩ := hR.1 b x hb'
        exact ⟨a1.kept (f5 b a1.lt), a2⟩
      · have hb1 : (if b = T.heap.size then some (.inl (gA Γ 7, n.toNatClampNeg, rfA fun j => some (T.heap.size + 1 + j))) else some (.inl (gA Γ 0, m.toNatClampNeg, .inl fun _ => 0))) = some x := by rw [← hb]; exact (if_neg z1).symm
        by_cases z2 : b = T.heap.size
        · rw [if_pos z2] at hb1
          cases hb1
          rw [z2]
          exact ⟨f2, hA _ (Nat.le_refl _)⟩
        · rw [if_neg z2] at hb1
          cases hb1
          have := f6 (b - T.heap.size - 1) (by omega)
          rw [show T.heap.size + 1 + (b - T.heap.size - 1) = b by omega] at this
          exact ⟨this, hA _ (by omega)⟩
    · have : q < T.heap.size := by
        rcases Nat.lt_or_ge q T.heap.size with z | z
        · exact z
        · exact absurd (hA q z) hq
      rw [f5 q this]
      exact hR.2.2.1 q hq
    · rcases List.mem_append.mp hq with z | z
      · exact hR.2.2.2.1 q z
      · rw [hL2 q z]; exact hA _ (Nat.le_refl _)
    · rcases Nat.lt_trichotomy q T.heap.size with z | z | z
      · rw [f5 q z] at hc; exact hR.2.2.2.2 q c hq hc
      · rw [z, f2] at hc
        rw [← Option.some.inj hc]
        rfl
      · have hlt := (Array.getElem?_eq_some_iff.mp hc).1
        have := f6 (q - T.heap.size - 1) (by omega)
        rw [show T.heap.size + 1 + (q - T.heap.size - 1) = q by omega, hc] at this
        rw [Option.some.inj this]
        rfl
  obtain ⟨t, a1, b1⟩ := kk T.heap.size _ S.heap (locs ++ L2) arr w hR2 hL S rfl XF
  refine ⟨t, ?_, b1⟩
  have hex := hK.x
  have hdg : decode (kc K).code (F0 (km K) pc arr (.int m :: .int n :: st)).pc = .ok (.multianewarray idx 2, 4) := by rw [hK.b]; exact hd
  have hl1 : ¬ n.toNatClampNeg > (ke K).platform.arrayLengthLimit := by rw [Launch.admits_arrayLengthLimit X.admits]; omega
  have hh1 : ¬ n.toNatClampNeg * componentBytes (.array .int) > (ke K).platform.maxHeapBytes := by
    rw [Launch.admits_maxHeapBytes X.admits]; show ¬ n.toNatClampNeg * 4 > 536870912; omega
  have hl2 : ¬ m.toNatClampNeg > (ke K).platform.arrayLengthLimit := by rw [Launch.admits_arrayLengthLimit X.admits]; omega
  have hh2 : ¬ m.toNatClampNeg * componentBytes .int > (ke K).platform.maxHeapBytes := by
    rw [Launch.admits_maxHeapBytes X.admits]; show ¬ m.toNatClampNeg * 4 > 536870912; omega
  jvm_step X.here [hex, hdg]
  simp only [Op.multianewarray.sem, wp_bind', W.resolveClassAt_links (State.method?_setTop (F0 (km K) pc arr (.int m :: .int n :: st)) X.here.top) hg₁]
  rw [W.popN, if_neg (by decide)]
  refine ⟨F0 (km K) pc arr (.int m :: .int n :: st), State.topJava?_setTop' (s := T.setVm vm₁) _ X.here.top, [.int n, .int m], st, rfl, rfl, ?_⟩
  simp only [List.mapM_cons, List.mapM_nil, wp_bind', wp_pure']
  refine wp_mst (k := kA₁) (kc := kC₁) (comp := gA Γ 0) (cc := cC) hkA₁ hkindA₁ hkC₁ hkindC₁ hn hm hl1 hh1 hl2 hh2 (by show T.heap.size + 1 + _ ≤ _; omega) (by show T.slotsUsed + _ + _ ≤ _; omega) (fun d' acts' => ?_)
  have eT : ((T.setTop (F0 (km K) pc arr (.int m :: .int n :: st))).setVm vm₁).setTop (F0 (km K) pc arr st) = (T.setVm vm₁).setTop (F0 (km K) pc arr st) := by
    show ((T.setVm vm₁).setTop _).setTop _ = _
    rw [State.setTop_setTop]
  show Sem.wp _ _ _ _ _ _ (mst (((T.setTop (F0 (km K) pc arr (.int m :: .int n :: st))).setVm vm₁).setTop (F0 (km K) pc arr st)) _ _ _ _ _)
  rw [eT, mst_setTop, hS]
  simp only [wp_bind', W.mark, W.pushRef, State.topJava?_setTop' _ XF.here.top, Option.some.injEq, exists_eq_left', State.setTop_setTop, State.heap_setTop]
  intro acts
  simp [jvm, XF.here.top]
  exact a1
end MV
