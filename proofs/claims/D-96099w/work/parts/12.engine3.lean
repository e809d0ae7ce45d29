/-! THE ENGINE, 3: calls and throws -/
set_option maxRecDepth 100000
theorem setTop_heap (T : State) (g : JFrame) : (T.setTop g).heap = T.heap := by
  unfold State.setTop State.modifyTopJava
  first | rfl | (split <;> rfl) | simp
section EC
variable {Γ : Gam} {A : Nat → Prop} {K : JC} {cc : ByteArray} {nL : Nat} {own : String} {hh : List (Nat × Nat × Nat × Nat)} {pc : Nat} {ls : List (Option Value)} {st : List Value} {P P' : PH → Prop} {cs ss d mc ms : Nat} {ret : Option FieldType} {Φ : Outcome → PH → Prop}
theorem AOK.at {T : State} {h : PH} {locs : List Loc} (hA : AOK Γ A (ks K).heap) (hR : Rp Γ A h (ks K).heap T.heap locs) : AOK Γ A T.heap := by
  refine ⟨fun q hq => hA.1 q (Nat.le_trans hR.2.1 hq), hA.2.1, fun q hq => ?_, hR.2.2.2.2⟩
  rw [hR.2.2.1 q (fun z => absurd (hA.2.1 q z) (by omega))]
  exact hA.2.2.1 q hq
/-- what a call comes back with: 'returned' one instruction further, 'threw' over the caller's frame -/
def Back1 (Γ : Gam) (K : JC) (T' : State) (g : JFrame) (len : Nat) (S : State) : Outcome → Prop
  | .returned v => Steps (kp K).tables (ke K) (kb K) S (T'.setTop { g with pc := g.pc + len, stack := v.toList ++ g.stack })
  | .threw x => Steps (kp K).tables (ke K) (kb K) S ((T'.setTop g).pushFrame (.throwing x))
theorem call_core {y : MethodName} {ws : List Cond} {d' mc' ms' L' W0 : Nat} {as : List Value} {Ψ : Outcome → PH → Prop} {mk : MethodId} (hK : Jok Γ A K cc nL own hh) (hC : Ct Γ A y ws d' mc' ms' as P Ψ) (hws : GoodIn lw_all ws)
    (hcode : ∃ meth' c', (ks K).vm.method? mk = some meth' ∧ meth'.code = some c' ∧ c'.maxLocals = L') (hn : (ks K).methodNamed? y = some mk) (hini : Cond.initialized y.cls ∈ lw_all)
    (hfr : d' + 1 ≤ (kR K).frames) (hlo : W0 + (L' + 11) + 60 * d' ≤ (kR K).locals) (hcs : cs + mc' ≤ (kR K).cells) (hss : ss + ms' ≤ (kR K).slots)
    {T : State} {locs : List Loc} (X : Sk Γ K T locs cs ss) {h : PH} (hP : P h) (hR : Rp Γ A h (ks K).heap T.heap locs) {g : JFrame} (hg : g.method = km K) (hsize : g.locals.size = (kc K).maxLocals) (hW : 2 * g.monitorRoom + (g.stack.map fun v => v.category).sum ≤ W0) {ig : Instr} {len : Nat} (hdg : decode (kc K).code g.pc = .ok (ig, len)) (acts : List Action) :
    ∃ (o : Outcome) (T' : State) (L : List Loc) (h' : PH), Sk Γ K T' (locs ++ L) (cs + mc') (ss + ms') ∧ Ψ o h' ∧ Rp Γ A h' (ks K).heap T'.heap (locs ++ L) ∧ Back1 Γ K T' g len (doInvoke (ke K) (T.setTop g) acts mk as.toArray).1 o := by
  have hM := hC hK.g
  obtain ⟨methY, cY, hmY, hcY, hlY⟩ := hcode
  have hat : At T g.method (kc K) (kb K) := by rw [hg]; exact X.here
  have hnT : T.methodNamed? y = some mk := X.named hn
  obtain ⟨kY, hkY, -⟩ := className_of_methodNamed hnT
  have hpay := pay_in hK.ts hws
  have hini' : (Cond.initialized y.cls).before as.toArray T = true := word_at X.warmed (Or.inl (by first | rfl | simp [Cond.onTables, Cond.keeps, Cond.steady])) (hK.ts _ hini)
  have hinitY : kY.init = .initialized := Cond.initialized_spec (findClass_of_methodNamed hnT) hkY hini'
  have hmT : T.vm.method? mk = some methY := by rw [X.warmed.alike.method?]; exact hmY
  have happ : (headSpec ws (rmD d' mc' ms')).appliesLoose y (ke K).platform (T.calling g mk as.toArray) = true :=
    Spec.appliesLoose_calling (g := g) hat hdg hnT hkY hinitY
      (X.room_calling (g := g) (R' := rmD d' mc' ms') hsize hmT hcY hfr (by rw [hlY]; show _ + _ + 60 * d' ≤ _; omega) hcs hss) (atoms_intro fun w hw => hpay w hw _ _ X.warmed)
  obtain ⟨mid, hmid⟩ := hat.above
  have hfrm : (T.setTop g).frames = (.java g :: mid) ++ kb K := by rw [State.frames_setTop' g hat.top, hmid]; rfl
  have hcp : CtP Γ A P (T.calling g mk as.toArray) := ⟨State.WarmedH.trans hK.warm X.warmed, hK.a.at hR, h, hP, hR.1⟩
  obtain ⟨o, s₂, hsteps, -, hend, hq⟩ := Steps.callFree hM (kp K) X.admits X.cas X.clock (acts := acts) hfrm happ ⟨rfl, hcp⟩ trivial
  rw [State.frames_setTop' g hat.top, X.tail] at hend
  obtain ⟨⟨h', hΨ, hrep, hns⟩, hz, hf, hw, L, hsame, hLA⟩ := hq
  have hz' : T.heap.size ≤ s₂.heap.size := hz
  have hf' : ∀ q, ¬ A q → s₂.heap[q]? = T.heap[q]? := hf
  cases o with
  | returned v =>
    obtain ⟨T', X', -, -, ht⟩ := X.outOf hg hdg hend hw hsame
    have hh' : T'.heap = s₂.heap := by rw [ht, setTop_heap]
    refine ⟨.returned v, T', L, h', X', hΨ, ⟨by rw [hh']; exact hrep, by rw [hh']; exact Nat.le_trans hR.2.1 hz', fun q hq => by rw [hh', hf' q hq]; exact hR.2.2.1 q hq, fun q hq => ?_, by rw [hh']; exact hns⟩, ?_⟩
    · rcases List.mem_append.mp hq with a | a
      · exact hR.2.2.2.1 q a
      · exact hLA q a
    · show Steps _ _ _ _ _
      rw [← ht]
      exact hsteps
  | threw x =>
    obtain ⟨T', X', -, -, ht⟩ := X.outOfThrown hg hend hw hsame
    have hh' : T'.heap = s₂.heap := by rw [ht, throwing_heap]
    refine ⟨.threw x, T', L, h', X', hΨ, ⟨by rw [hh']; exact hrep, by rw [hh']; exact Nat.le_trans hR.2.1 hz', fun q hq => by rw [hh', hf' q hq]; exact hR.2.2.1 q hq, fun q hq => ?_, by rw [hh']; exact hns⟩, ?_⟩
    · rcases List.mem_append.mp hq with a | a
      · exact hR.2.2.2.1 q a
      · exact hLA q a
    · show Steps _ _ _ _ _
      rw [← ht]
      exact hsteps
/-- a call site of some kind: the machine comes to 'doInvoke' of mk -/
def Site (Γ : Gam) (K : JC) (T : State) (locs : List Loc) (cs ss : Nat) (g : JFrame) (rest : List Value) (mk : MethodId) (as : List Value) : Prop :=
  ∃ vm₁, Sk Γ K (T.setVm vm₁) locs cs ss ∧ ∀ target, (∀ acts, Steps (kp K).tables (ke K) (kb K) (doInvoke (ke K) ((T.setVm vm₁).setTop { g with stack := rest }) acts mk as.toArray).1 target) → Steps (kp K).tables (ke K) (kb K) (T.setTop g) target
/-- a call of any kind by a contract -/
theorem j_site {y : MethodName} {ws : List Cond} {d' mc' ms' L' : Nat} {as stk : List Value} {Ψ : Outcome → PH → Prop} {ig : Instr} (hK : Jok Γ A K cc nL own hh) (hQ : Kq Γ A K d mc ms ret Φ) (hC : Ct Γ A y ws d' mc' ms' as P Ψ) (hws : GoodIn lw_all ws) (hini : Cond.initialized y.cls ∈ lw_all)
    (hdd : d' < d) (hL' : L' ≤ 41) (hcs : cs + mc' ≤ mc) (hss : ss + ms' ≤ ms) (hd : decode cc pc = .ok (ig, 3)) (hsum : (st.map fun v => v.category).sum ≤ 8)
    (site : ∀ (h : PH) (H : Heap) (locs : List Loc) (arr : Array Slot), P h → Rp Γ A h (ks K).heap H locs → arr.size = (kc K).maxLocals → ∀ T : State, T.heap = H → Sk Γ K T locs cs ss → ∃ mk, (ks K).methodNamed? y = some mk ∧ (∃ meth' c', (ks K).vm.method? mk = some meth' ∧ meth'.code = some c' ∧ c'.maxLocals = L') ∧ Site Γ K T locs cs ss (F0 (km K) pc arr stk) st mk as)
    (kr : ∀ v, J Γ A K (pc + 3) ls (v.toList ++ st) (Ψ (.returned v)) (cs + mc') (ss + ms')) (kx : ∀ x, JT Γ A K pc ls st x (Ψ (.threw x)) (cs + mc') (ss + ms')) : J Γ A K pc ls stk P cs ss := fun h H locs arr hP hR hL T hT X => by
  subst hT
  obtain ⟨mk, hn, hcode, vm₁, X₁, hstep⟩ := site h T.heap locs arr hP hR hL.1 T rfl X
  obtain ⟨o, T', L, h', X', hΨ, hR', hb⟩ := call_core (W0 := 8) hK hC hws hcode hn hini (by rw [hQ.1]; show d' + 1 ≤ d; omega) (by rw [hQ.1]; show _ ≤ 60 * d; omega) (by rw [hQ.1]; exact hcs) (by rw [hQ.1]; exact hss) X₁ hP hR (g := F0 (km K) pc arr st) rfl hL.1 (by show 2 * 0 + (st.map fun v => v.category).sum ≤ 8; omega) (by rw [hK.b]; exact hd) []
  cases o with
  | returned v =>
    obtain ⟨t, a1, b1⟩ := kr v h' T'.heap (locs ++ L) arr hΨ hR' hL T' rfl X'
    exact ⟨t, hstep t (fun acts => by rw [doInvoke_state]; exact Steps.trans hb a1), b1⟩
  | threw x =>
    obtain ⟨t, a1, b1⟩ := kx x h' T'.heap (locs ++ L) arr hΨ hR' hL T' rfl X'
    exact ⟨t, hstep t (fun acts => by rw [doInvoke_state]; exact Steps.trans hb a1), b1⟩
end EC
