/-! THE ENGINE, 1: pure heaps, walks over them, contracts (returned or threw), the plain instructions -/
set_option maxRecDepth 100000
abbrev vwCl : List vw_C := [(RX0, TX0, 35), (RX1, TX1, 6), (RX2, TX2, 1), (RX4, TX4, 2), (RX5, TX5, 1), (RX6, TX6, 2), (RX7, TX7, 3), (RX8, TX8, 40), (RX9, TX9, 1), (RX10, TX10, 1), (RX11, TX11, 1), (RX12, TX12, 1), (RX13, TX13, 1), (RX14, TX14, 1), (RJ10, TJ10, 6), (RJ12, TJ10, 0), (RJ14, TJ10, 0), (RJ11, TJ10, 0), (RJ10, TJ10, 0)]
/-- the array classes by number -/
abbrev tysL (dA : Nat → ClassId) : List (ClassId × FieldType) := [(dA 0, .int), (dA 1, .byte), (dA 2, .short), (dA 3, .object "BoatsCalledIn$Boat"), (dA 4, .object "BoatsCalledIn$Node"), (dA 5, .array (.object "BoatsCalledIn$Node")), (dA 6, .object "java/lang/String"), (dA 7, .array .int), (dA 8, .object "BoatsCalledIn$Sheet")]
abbrev PH : Type := Nat → Option va_E
def pu (h : PH) (a : Nat) (e : va_E) : PH := fun q => if q = a then some e else h q
theorem pu_self (h : PH) (a : Nat) (e : va_E) : pu h a e a = some e := if_pos rfl
theorem pu_ne (h : PH) {a q : Nat} (e : va_E) (n : q ≠ a) : pu h a e q = h q := if_neg n
/-- what is fixed for the whole run: the launch, the law's start, the script's cell, the classes' numbers and slots, the array classes -/
abbrev Gam : Type := Launch × State × Nat × (Nat → ClassId) × (Nat → Nat → Nat) × (Nat → ClassId)
abbrev gl (Γ : Gam) : Launch := Γ.1
abbrev gs (Γ : Gam) : State := Γ.2.1
abbrev gb (Γ : Gam) : Nat := Γ.2.2.1
abbrev gD (Γ : Gam) : va_G := (Γ.2.2.2.1, Γ.2.2.2.2.1)
abbrev gA (Γ : Gam) : Nat → ClassId := Γ.2.2.2.2.2
def GOK (Γ : Gam) : Prop := (∀ w ∈ lw_tbl, w.before #[Value.ref (gb Γ)] (gs Γ) = true) ∧ (Jvm.Cond.and given_1 narrow_1).before #[Value.ref (gb Γ)] (gs Γ) = true ∧ va_K (gD Γ) vwCl (tysL (gA Γ)) (gs Γ) ∧ (gl Γ).stackTraces = false ∧ modulesRight_1 (gs Γ) = true
/-- what is fixed for one walk -/
abbrev JC : Type := Program × Env × Room × State × MethodId × Array Value × List Frame × Method × Code × (State → Prop)
abbrev kp (K : JC) : Program := K.1
abbrev ke (K : JC) : Env := K.2.1
abbrev kR (K : JC) : Room := K.2.2.1
abbrev ks (K : JC) : State := K.2.2.2.1
abbrev km (K : JC) : MethodId := K.2.2.2.2.1
abbrev ka (K : JC) : Array Value := K.2.2.2.2.2.1
abbrev kb (K : JC) : List Frame := K.2.2.2.2.2.2.1
abbrev kt (K : JC) : Method := K.2.2.2.2.2.2.2.1
abbrev kc (K : JC) : Code := K.2.2.2.2.2.2.2.2.1
abbrev kQ (K : JC) : State → Prop := K.2.2.2.2.2.2.2.2.2
abbrev Wk (Γ : Gam) (K : JC) (H : Heap) (locs : List Loc) (cs ss : Nat) (g : JFrame) : Prop := W (kp K) (gl Γ) (ke K) (kR K) (ks K) (km K) (ka K) (kb K) (kt K) (kc K) H locs cs ss (kQ K) g
abbrev Sk (Γ : Gam) (K : JC) (T : State) (locs : List Loc) (cs ss : Nat) : Prop := Stand (kp K) (gl Γ) (ke K) (kR K) (ks K) (km K) (ka K) (kb K) (kt K) (kc K) T locs cs ss
/-- none of the cells A is a class's cell of statics -/
def NS (A : Nat → Prop) (H : Heap) : Prop := ∀ (q : Nat) (c : Cell), A q → H[q]? = some c → c.vm.isStatics = false
/-- A: the cells that the run of this side may write; they lie above the law's start, and all that are new are among them -/
def AOK (Γ : Gam) (A : Nat → Prop) (H : Heap) : Prop := (∀ q, H.size ≤ q → A q) ∧ (∀ q, A q → (gs Γ).heap.size ≤ q) ∧ (∀ q, q < (gs Γ).heap.size → H[q]? = (gs Γ).heap[q]?) ∧ NS A H
def Jok (Γ : Gam) (A : Nat → Prop) (K : JC) (cc : ByteArray) (nL : Nat) (own : String) (hh : List (Nat × Nat × Nat × Nat)) : Prop :=
  (kp K).tables.exec = Jvm.exec ∧ (kc K).code = cc ∧ (kc K).maxLocals = nL ∧ (ks K).vm.findClass own = some (km K).cls ∧ (∀ w ∈ lw_all, w.before (ka K) (ks K) = true) ∧ (kt K).locks = false ∧ (gs Γ).WarmedH (ks K).vm ∧ GOK Γ ∧ AOK Γ A (ks K).heap ∧ (kc K).exceptionTable.toList = tableOf hh
theorem Jok.x {Γ : Gam} {A : Nat → Prop} {K : JC} {cc : ByteArray} {nL : Nat} {own : String} {hh : List (Nat × Nat × Nat × Nat)} (h : Jok Γ A K cc nL own hh) : (kp K).tables.exec = Jvm.exec := h.1
theorem Jok.b {Γ : Gam} {A : Nat → Prop} {K : JC} {cc : ByteArray} {nL : Nat} {own : String} {hh : List (Nat × Nat × Nat × Nat)} (h : Jok Γ A K cc nL own hh) : (kc K).code = cc := h.2.1
theorem Jok.ml {Γ : Gam} {A : Nat → Prop} {K : JC} {cc : ByteArray} {nL : Nat} {own : String} {hh : List (Nat × Nat × Nat × Nat)} (h : Jok Γ A K cc nL own hh) : (kc K).maxLocals = nL := h.2.2.1
theorem Jok.own {Γ : Gam} {A : Nat → Prop} {K : JC} {cc : ByteArray} {nL : Nat} {own : String} {hh : List (Nat × Nat × Nat × Nat)} (h : Jok Γ A K cc nL own hh) : (ks K).vm.findClass own = some (km K).cls := h.2.2.2.1
theorem Jok.ts {Γ : Gam} {A : Nat → Prop} {K : JC} {cc : ByteArray} {nL : Nat} {own : String} {hh : List (Nat × Nat × Nat × Nat)} (h : Jok Γ A K cc nL own hh) : ∀ w ∈ lw_all, w.before (ka K) (ks K) = true := h.2.2.2.2.1
theorem Jok.lk {Γ : Gam} {A : Nat → Prop} {K : JC} {cc : ByteArray} {nL : Nat} {own : String} {hh : List (Nat × Nat × Nat × Nat)} (h : Jok Γ A K cc nL own hh) : (kt K).locks = false := h.2.2.2.2.2.1
theorem Jok.warm {Γ : Gam} {A : Nat → Prop} {K : JC} {cc : ByteArray} {nL : Nat} {own : String} {hh : List (Nat × Nat × Nat × Nat)} (h : Jok Γ A K cc nL own hh) : (gs Γ).WarmedH (ks K).vm := h.2.2.2.2.2.2.1
theorem Jok.g {Γ : Gam} {A : Nat → Prop} {K : JC} {cc : ByteArray} {nL : Nat} {own : String} {hh : List (Nat × Nat × Nat × Nat)} (h : Jok Γ A K cc nL own hh) : GOK Γ := h.2.2.2.2.2.2.2.1
theorem Jok.a {Γ : Gam} {A : Nat → Prop} {K : JC} {cc : ByteArray} {nL : Nat} {own : String} {hh : List (Nat × Nat × Nat × Nat)} (h : Jok Γ A K cc nL own hh) : AOK Γ A (ks K).heap := h.2.2.2.2.2.2.2.2.1
theorem Jok.ex {Γ : Gam} {A : Nat → Prop} {K : JC} {cc : ByteArray} {nL : Nat} {own : String} {hh : List (Nat × Nat × Nat × Nat)} (h : Jok Γ A K cc nL own hh) : (kc K).exceptionTable.toList = tableOf hh := h.2.2.2.2.2.2.2.2.2
theorem Jok.k {Γ : Gam} {A : Nat → Prop} {K : JC} {cc : ByteArray} {nL : Nat} {own : String} {hh : List (Nat × Nat × Nat × Nat)} (h : Jok Γ A K cc nL own hh) : va_K (gD Γ) vwCl (tysL (gA Γ)) (ks K) := va_K.moved h.warm.alike h.g.2.2.1
/-- the pure heap is a true picture; its cells are among A -/
def RpA (Γ : Gam) (A : Nat → Prop) (h : PH) (H : Heap) : Prop := ∀ (a : Nat) (e : va_E), h a = some e → va_at (gD Γ) vwCl (a, e) H ∧ A a
def Rp (Γ : Gam) (A : Nat → Prop) (h : PH) (Hs H : Heap) (locs : List Loc) : Prop := RpA Γ A h H ∧ Hs.size ≤ H.size ∧ (∀ q, ¬ A q → H[q]? = Hs[q]?) ∧ (∀ q ∈ locs, A q.base) ∧ NS A H
/-- the locals: what is listed is held -/
def Lr (arr : Array Slot) (n : Nat) (ls : List (Option Value)) : Prop := arr.size = n ∧ lv_wf arr ∧ ∀ (i : Nat) (v : Value), ls[i]? = some (some v) → arr[i]? = some (.val v)
/-- from every heap whose picture has P, at pc, with these locals and this stack, the walk comes to its end -/
def J (Γ : Gam) (A : Nat → Prop) (K : JC) (pc : Nat) (ls : List (Option Value)) (st : List Value) (P : PH → Prop) (cs ss : Nat) : Prop :=
  ∀ (h : PH) (H : Heap) (locs : List Loc) (arr : Array Slot), P h → Rp Γ A h (ks K).heap H locs → Lr arr (kc K).maxLocals ls → Wk Γ K H locs cs ss (F0 (km K) pc arr st)
/-- the same, with an exception x on its way -/
def JT (Γ : Gam) (A : Nat → Prop) (K : JC) (pc : Nat) (ls : List (Option Value)) (st : List Value) (x : Nat) (P : PH → Prop) (cs ss : Nat) : Prop :=
  ∀ (h : PH) (H : Heap) (locs : List Loc) (arr : Array Slot), P h → Rp Γ A h (ks K).heap H locs → Lr arr (kc K).maxLocals ls → ∀ T : State, T.heap = H → Sk Γ K T locs cs ss → ∃ t, Steps (kp K).tables (ke K) (kb K) ((T.setTop (F0 (km K) pc arr st)).pushFrame (.throwing x)) t ∧ kQ K t
def rmD (d mc ms : Nat) : Room := { frames := d, cells := mc, slots := ms, locals := 60 * d }
/-- a contract's start and end -/
def CtP (Γ : Gam) (A : Nat → Prop) (P : PH → Prop) (U : State) : Prop := (gs Γ).WarmedH U.vm ∧ AOK Γ A U.heap ∧ ∃ h, P h ∧ RpA Γ A h U.heap
def CtQ (Γ : Gam) (A : Nat → Prop) (Φ : Outcome → PH → Prop) (mc ms : Nat) (st : State) (o : Outcome) (t : State) : Prop :=
  (∃ h, Φ o h ∧ RpA Γ A h t.heap ∧ NS A t.heap) ∧ st.heap.size ≤ t.heap.size ∧ (∀ q, ¬ A q → t.heap[q]? = st.heap[q]?) ∧ st.WarmedH t.vm ∧ ∃ L, st.sameButNew ({ t with vm := st.vm } : State) L mc ms ∧ ∀ q ∈ L, A q.base
def Ct (Γ : Gam) (A : Nat → Prop) (y : MethodName) (ws : List Cond) (d mc ms : Nat) (as : List Value) (P : PH → Prop) (Φ : Outcome → PH → Prop) : Prop :=
  GOK Γ → MetFree (gl Γ) y (headSpec ws (rmD d mc ms)) (fun v U => v = as.toArray ∧ CtP Γ A P U) (fun _ _ _ _ _ => True) (fun _ st o t => CtQ Γ A Φ mc ms st o t)
def Kq (Γ : Gam) (A : Nat → Prop) (K : JC) (d mc ms : Nat) (ret : Option FieldType) (Φ : Outcome → PH → Prop) : Prop := kR K = rmD d mc ms ∧ (kt K).sig.returnType = ret ∧ kQ K = fun t => ∃ o, t.status = .running ∧ Ended t (kb K) o ∧ CtQ Γ A Φ mc ms (ks K) o t
def ents : List Value → List (Option Value)
  | [] => []
  | v :: vs => if v.category = 2 then some v :: none :: ents vs else some v :: ents vs
def entL (n : Nat) (as : List Value) : List (Option Value) := ents as ++ List.replicate (n - (ents as).length) none
theorem ents_in : ∀ (vs : List Value) (k j : Nat) (w : Value), (ents vs)[j]? = some (some w) → (k + j, w) ∈ lv_args k vs := by
  intro vs
  induction vs with
  | nil => intro k j w h; simp [ents] at h
  | cons v t ih =>
    intro k j w h
    unfold ents at h
    unfold lv_args
    by_cases hc : v.category = 2
    · rw [if_pos hc] at h ⊢
      match j, h with
      | 0, h => simp at h; subst h; simp
      | 1, h => simp at h
      | j + 2, h =>
        have h' : (ents t)[j]? = some (some w) := by simpa using h
        have := ih (k + 2) j w h'
        rw [show k + 2 + j = k + (j + 2) by omega] at this
        exact List.mem_cons_of_mem _ this
    · rw [if_neg hc] at h ⊢
      match j, h with
      | 0, h => simp at h; subst h; simp
      | j + 1, h =>
        have h' : (ents t)[j]? = some (some w) := by simpa using h
        have := ih (k + 1) j w h'
        rw [show k + 1 + j = k + (j + 1) by omega] at this
        exact List.mem_cons_of_mem _ this
theorem ents_len : ∀ vs : List Value, (lg_sl vs).length = (ents vs).length := by
  intro vs
  induction vs with
  | nil => rfl
  | cons v t ih =>
    have e : lg_sl (v :: t) = (if v.category = 2 then [Slot.val v, .second] else [.val v]) ++ lg_sl t := by simp [lg_sl]
    rw [e]
    unfold ents
    by_cases hc : v.category = 2
    · simp [if_pos hc, ih]
    · simp [if_neg hc, ih]
theorem Lr.entry (as : List Value) {n : Nat} (h : (ents as).length ≤ n) : Lr ((lg_sl as ++ List.replicate (n - (lg_sl as).length) Slot.unset).toArray) n (entL n as) := by
  have h0 := lv_entry as (n := n) (by rw [ents_len]; exact h)
  refine ⟨h0.1, h0.2.1, fun i v hi => ?_⟩
  unfold entL at hi
  have h1 : (ents as)[i]? = some (some v) := by
    rcases Nat.lt_or_ge i (ents as).length with q | q
    · rwa [List.getElem?_append_left q] at hi
    · rw [List.getElem?_append_right q, List.getElem?_replicate] at hi
      split at hi <;> simp at hi
  have h2 := ents_in as 0 i v h1
  rw [Nat.zero_add] at h2
  exact h0.2.2 _ h2
/-- a contract out of the walk of the method's body -/
theorem Ct.of {Γ : Gam} {A : Nat → Prop} {y : MethodName} {ws : List Cond} {d mc ms : Nat} {as : List Value} {P : PH → Prop} {Φ : Outcome → PH → Prop} {cc : ByteArray} {nL : Nat} {ret : Option FieldType} {ls : List (Option Value)}
    (hy : plainName y.cls = true) (hw : ws = Cond.code y cc nL ret :: lw_all) (hls : entL nL as = ls) (hfit : (ents as).length ≤ nL)
    (body : ∀ K : JC, Jok Γ A K cc nL y.cls [] → Kq Γ A K d mc ms ret Φ → J Γ A K 0 ls [] P 0 0) : Ct Γ A y ws d mc ms as P Φ := by
  intro hΓ
  refine MetFree.of_bodyS (code := cc) (maxLocals := nL) (ret := ret) hy ?_ ?_
  · intro args s m h hn
    obtain ⟨meth, c, h1, h2, h3, h4, h5, h6, -, -⟩ := Cond.code_spec hn (atoms_spec (ws := ws) h _ (by rw [hw]; exact List.mem_cons_self))
    exact ⟨meth, c, h1, h2, h3, h4, h5, h6⟩
  · intro p e s m args below meth c s₁ B hml hP _
    obtain ⟨rfl, hw0, hA, h, hPh, hR⟩ := hP
    have hts := atoms_spec (ws := ws) B.pre
    have hall : ∀ w ∈ lw_all, w.before as.toArray s = true := fun w h => hts w (by rw [hw]; exact List.mem_cons_of_mem _ h)
    have hown := findClass_of_methodNamed B.named
    have hno : c.exceptionTable.isEmpty = true := B.noHandlers (hts _ (by rw [hw]; exact List.mem_cons_self))
    have hno2 : c.exceptionTable.toList = tableOf [] := by
      have : c.exceptionTable = #[] := by simpa using hno
      rw [this]; rfl
    have w := body (p, e, rmD d mc ms, s, m, as.toArray, below, meth, c, fun t => ∃ o, t.status = .running ∧ Ended t below o ∧ CtQ Γ A Φ mc ms s o t)
      ⟨B.exec, B.bytes, hml, hown, hall, B.notSynchronized, hw0, hΓ, hA, hno2⟩ ⟨rfl, B.returns, rfl⟩ h s.heap [] _ hPh
      ⟨hR, Nat.le_refl _, fun _ _ => rfl, (fun q hq => by cases hq), hA.2.2.2⟩ (by rw [← hls]; show Lr _ c.maxLocals _; rw [hml]; exact Lr.entry as hfit)
    have hh0 : s₁.heap = s.heap := by rw [B.state]; rfl
    obtain ⟨t, a1, o, b1, b2, b3⟩ := w s₁ hh0 (Stand.of_body B)
    refine ⟨t, o, ?_, b1, b2, b3⟩
    rw [lg_entry_eq]
    exact a1
/-- the same for a method with handlers -/
theorem Ct.ofW {Γ : Gam} {A : Nat → Prop} {y : MethodName} {ws : List Cond} {d mc ms : Nat} {as : List Value} {P : PH → Prop} {Φ : Outcome → PH → Prop} {cc : ByteArray} {nL : Nat} {ret : Option FieldType} {hh : List (Nat × Nat × Nat × Nat)} {ls : List (Option Value)}
    (hy : plainName y.cls = true) (hw : ws = Cond.codeWith y cc nL ret hh :: lw_all) (hls : entL nL as = ls) (hfit : (ents as).length ≤ nL)
    (body : ∀ K : JC, Jok Γ A K cc nL y.cls hh → Kq Γ A K d mc ms ret Φ → J Γ A K 0 ls [] P 0 0) : Ct Γ A y ws d mc ms as P Φ := by
  intro hΓ
  refine MetFree.of_bodyS (code := cc) (maxLocals := nL) (ret := ret) hy ?_ ?_
  · intro args s m h hn
    obtain ⟨m', meth, c, hn', h1, h2, h3, h4, -, h5, h6, -⟩ := Cond.codeWith_spec (atoms_spec (ws := ws) h _ (by rw [hw]; exact List.mem_cons_self))
    cases hn.symm.trans hn'
    exact ⟨meth, c, h1, h2, h3, h4, h5, h6⟩
  · intro p e s m args below meth c s₁ B hml hP _
    obtain ⟨rfl, hw0, hA, h, hPh, hR⟩ := hP
    have hts := atoms_spec (ws := ws) B.pre
    have hall : ∀ w ∈ lw_all, w.before as.toArray s = true := fun w h => hts w (by rw [hw]; exact List.mem_cons_of_mem _ h)
    have hown := findClass_of_methodNamed B.named
    have hno2 : c.exceptionTable.toList = tableOf hh := by
      obtain ⟨m', meth', c', hn', h1, h2, -, -, h5, -, -, -⟩ := Cond.codeWith_spec (hts _ (by rw [hw]; exact List.mem_cons_self))
      cases B.named.symm.trans hn'
      cases B.method.symm.trans h1
      cases (Stand.of_body B).code.symm.trans h2
      rw [← h5, table_eq]
    have w := body (p, e, rmD d mc ms, s, m, as.toArray, below, meth, c, fun t => ∃ o, t.status = .running ∧ Ended t below o ∧ CtQ Γ A Φ mc ms s o t)
      ⟨B.exec, B.bytes, hml, hown, hall, B.notSynchronized, hw0, hΓ, hA, hno2⟩ ⟨rfl, B.returns, rfl⟩ h s.heap [] _ hPh
      ⟨hR, Nat.le_refl _, fun _ _ => rfl, (fun q hq => by cases hq), hA.2.2.2⟩ (by rw [← hls]; show Lr _ c.maxLocals _; rw [hml]; exact Lr.entry as hfit)
    have hh0 : s₁.heap = s.heap := by rw [B.state]; rfl
    obtain ⟨t, a1, o, b1, b2, b3⟩ := w s₁ hh0 (Stand.of_body B)
    refine ⟨t, o, ?_, b1, b2, b3⟩
    rw [lg_entry_eq]
    exact a1
section EJ
variable {Γ : Gam} {A : Nat → Prop} {K : JC} {cc : ByteArray} {nL : Nat} {own : String} {hh : List (Nat × Nat × Nat × Nat)} {pc : Nat} {ls : List (Option Value)} {st : List Value} {P P' : PH → Prop} {cs ss : Nat}
theorem J.mono (h : ∀ x, P x → P' x) (k : J Γ A K pc ls st P' cs ss) : J Γ A K pc ls st P cs ss := fun x H locs arr hP hR hL => k x H locs arr (h x hP) hR hL
theorem J.ex {S : Sort _} {Q : S → PH → Prop} (k : ∀ s, J Γ A K pc ls st (Q s) cs ss) : J Γ A K pc ls st (fun h => ∃ s, Q s h) cs ss := fun x H locs arr ⟨s, hP⟩ hR hL => k s x H locs arr hP hR hL
theorem J.pre {p : Prop} (k : p → J Γ A K pc ls st P cs ss) : J Γ A K pc ls st (fun h => p ∧ P h) cs ss := fun x H locs arr ⟨a, hP⟩ hR hL => k a x H locs arr hP hR hL
theorem J.both (h : ∀ x, P x → P' x) (k : J Γ A K pc ls st (fun x => P x ∧ P' x) cs ss) : J Γ A K pc ls st P cs ss := fun x H locs arr hP hR hL => k x H locs arr ⟨hP, h x hP⟩ hR hL
theorem J.inv {p : Prop} (h : ∀ x, P x → p) (k : p → J Γ A K pc ls st P cs ss) : J Γ A K pc ls st P cs ss := fun x H locs arr hP hR hL => k (h x hP) x H locs arr hP hR hL
theorem J.void (h : ∀ x, ¬ P x) : J Γ A K pc ls st P cs ss := fun x H locs arr hP hR hL => (h x hP).elim
theorem J.wide {c2 s2 : Nat} (h1 : cs ≤ c2) (h2 : ss ≤ s2) (k : J Γ A K pc ls st P c2 s2) : J Γ A K pc ls st P cs ss := fun x H locs arr hP hR hL => W.widen h1 h2 (k x H locs arr hP hR hL)
theorem J.lsub {l2 : List (Option Value)} (h : ∀ (i : Nat) (v : Value), l2[i]? = some (some v) → ls[i]? = some (some v)) (k : J Γ A K pc l2 st P cs ss) : J Γ A K pc ls st P cs ss := fun x H locs arr hP hR hL => k x H locs arr hP hR ⟨hL.1, hL.2.1, fun i v q => hL.2.2 i v (h i v q)⟩
theorem J.name {α : Sort _} (x : α) {F : α → Prop} (k : ∀ y, y = x → F y) : F x := k x rfl
theorem J.at {pc2 : Nat} (h : pc = pc2) (k : J Γ A K pc2 ls st P cs ss) : J Γ A K pc ls st P cs ss := h ▸ k

theorem j_iconst (hK : Jok Γ A K cc nL own hh) {n : Int} {v : Int32} (hd : decode cc pc = .ok (.iconst n, 1)) (hv : Int32.ofInt n = v) (k : J Γ A K (pc + 1) ls (.int v :: st) P cs ss) : J Γ A K pc ls (st) P cs ss := fun h H locs arr hP hR hL => lv_iconst hK.x hK.b hd hv (k h H locs arr hP hR hL)
theorem j_bipush (hK : Jok Γ A K cc nL own hh) {n : Int} {v : Int32} (hd : decode cc pc = .ok (.bipush n, 2)) (hv : (Int8.ofInt n).toInt32 = v) (k : J Γ A K (pc + 2) ls (.int v :: st) P cs ss) : J Γ A K pc ls (st) P cs ss := fun h H locs arr hP hR hL => lv_bipush hK.x hK.b hd hv (k h H locs arr hP hR hL)
theorem j_sipush (hK : Jok Γ A K cc nL own hh) {n : Int} {v : Int32} (hd : decode cc pc = .ok (.sipush n, 3)) (hv : (Int16.ofInt n).toInt32 = v) (k : J Γ A K (pc + 3) ls (.int v :: st) P cs ss) : J Γ A K pc ls (st) P cs ss := fun h H locs arr hP hR hL => lv_sipush hK.x hK.b hd hv (k h H locs arr hP hR hL)
theorem j_lconst (hK : Jok Γ A K cc nL own hh) {n : Fin 2} {v : Int64} (hd : decode cc pc = .ok (.lconst n, 1)) (hv : Int64.ofNat (n : Nat) = v) (k : J Γ A K (pc + 1) ls (.long v :: st) P cs ss) : J Γ A K pc ls (st) P cs ss := fun h H locs arr hP hR hL => lv_lconst hK.x hK.b hd hv (k h H locs arr hP hR hL)
theorem j_null (hK : Jok Γ A K cc nL own hh) (hd : decode cc pc = .ok (.aconst_null, 1)) (k : J Γ A K (pc + 1) ls (.null :: st) P cs ss) : J Γ A K pc ls (st) P cs ss := fun h H locs arr hP hR hL => lv_null hK.x hK.b hd (k h H locs arr hP hR hL)
theorem j_iload_n (hK : Jok Γ A K cc nL own hh) {n : Fin 4} {x : Int32} (hd : decode cc pc = .ok (.iload_n n, 1)) (hl : ls[(n : Nat)]? = some (some (.int x))) (k : J Γ A K (pc + 1) ls (.int x :: st) P cs ss) : J Γ A K pc ls (st) P cs ss := fun h H locs arr hP hR hL => lv_iload_n hK.x hK.b hd rfl (hL.2.2 _ _ hl) (k h H locs arr hP hR hL)
theorem j_iload (hK : Jok Γ A K cc nL own hh) {n : Nat} {x : Int32} (hd : decode cc pc = .ok (.iload n, 2)) (hl : ls[n]? = some (some (.int x))) (k : J Γ A K (pc + 2) ls (.int x :: st) P cs ss) : J Γ A K pc ls (st) P cs ss := fun h H locs arr hP hR hL => lv_iload hK.x hK.b hd (hL.2.2 _ _ hl) (k h H locs arr hP hR hL)
theorem j_lload_n (hK : Jok Γ A K cc nL own hh) {n : Fin 4} {x : Int64} (hd : decode cc pc = .ok (.lload_n n, 1)) (hl : ls[(n : Nat)]? = some (some (.long x))) (k : J Γ A K (pc + 1) ls (.long x :: st) P cs ss) : J Γ A K pc ls (st) P cs ss := fun h H locs arr hP hR hL => lv_lload_n hK.x hK.b hd rfl (hL.2.2 _ _ hl) (k h H locs arr hP hR hL)
theorem j_lload (hK : Jok Γ A K cc nL own hh) {n : Nat} {x : Int64} (hd : decode cc pc = .ok (.lload n, 2)) (hl : ls[n]? = some (some (.long x))) (k : J Γ A K (pc + 2) ls (.long x :: st) P cs ss) : J Γ A K pc ls (st) P cs ss := fun h H locs arr hP hR hL => lv_lload hK.x hK.b hd (hL.2.2 _ _ hl) (k h H locs arr hP hR hL)
theorem j_aload_n (hK : Jok Γ A K cc nL own hh) {n : Fin 4} {x : Nat} (hd : decode cc pc = .ok (.aload_n n, 1)) (hl : ls[(n : Nat)]? = some (some (.ref x))) (k : J Γ A K (pc + 1) ls (.ref x :: st) P cs ss) : J Γ A K pc ls (st) P cs ss := fun h H locs arr hP hR hL => lv_aload_n hK.x hK.b hd rfl (hL.2.2 _ _ hl) (k h H locs arr hP hR hL)
theorem j_aload (hK : Jok Γ A K cc nL own hh) {n : Nat} {x : Nat} (hd : decode cc pc = .ok (.aload n, 2)) (hl : ls[n]? = some (some (.ref x))) (k : J Γ A K (pc + 2) ls (.ref x :: st) P cs ss) : J Γ A K pc ls (st) P cs ss := fun h H locs arr hP hR hL => lv_aload hK.x hK.b hd (hL.2.2 _ _ hl) (k h H locs arr hP hR hL)
theorem j_aload_nN (hK : Jok Γ A K cc nL own hh) {n : Fin 4} (hd : decode cc pc = .ok (.aload_n n, 1)) (hl : ls[(n : Nat)]? = some (some .null)) (k : J Γ A K (pc + 1) ls (.null :: st) P cs ss) : J Γ A K pc ls (st) P cs ss := fun h H locs arr hP hR hL => lv_aload_nN hK.x hK.b hd rfl (hL.2.2 _ _ hl) (k h H locs arr hP hR hL)
theorem j_aloadN (hK : Jok Γ A K cc nL own hh) {n : Nat} (hd : decode cc pc = .ok (.aload n, 2)) (hl : ls[n]? = some (some .null)) (k : J Γ A K (pc + 2) ls (.null :: st) P cs ss) : J Γ A K pc ls (st) P cs ss := fun h H locs arr hP hR hL => lv_aloadN hK.x hK.b hd (hL.2.2 _ _ hl) (k h H locs arr hP hR hL)
theorem j_iadd (hK : Jok Γ A K cc nL own hh) {x y : Int32} (hd : decode cc pc = .ok (.iadd, 1)) (k : J Γ A K (pc + 1) ls (.int (x + y) :: st) P cs ss) : J Γ A K pc ls (.int y :: .int x :: st) P cs ss := fun h H locs arr hP hR hL => lv_iadd hK.x hK.b hd (k h H locs arr hP hR hL)
theorem j_isub (hK : Jok Γ A K cc nL own hh) {x y : Int32} (hd : decode cc pc = .ok (.isub, 1)) (k : J Γ A K (pc + 1) ls (.int (x - y) :: st) P cs ss) : J Γ A K pc ls (.int y :: .int x :: st) P cs ss := fun h H locs arr hP hR hL => lv_isub hK.x hK.b hd (k h H locs arr hP hR hL)
theorem j_imul (hK : Jok Γ A K cc nL own hh) {x y : Int32} (hd : decode cc pc = .ok (.imul, 1)) (k : J Γ A K (pc + 1) ls (.int (x * y) :: st) P cs ss) : J Γ A K pc ls (.int y :: .int x :: st) P cs ss := fun h H locs arr hP hR hL => lv_imul hK.x hK.b hd (k h H locs arr hP hR hL)
theorem j_iand (hK : Jok Γ A K cc nL own hh) {x y : Int32} (hd : decode cc pc = .ok (.iand, 1)) (k : J Γ A K (pc + 1) ls (.int (x &&& y) :: st) P cs ss) : J Γ A K pc ls (.int y :: .int x :: st) P cs ss := fun h H locs arr hP hR hL => lv_iand hK.x hK.b hd (k h H locs arr hP hR hL)
theorem j_ior (hK : Jok Γ A K cc nL own hh) {x y : Int32} (hd : decode cc pc = .ok (.ior, 1)) (k : J Γ A K (pc + 1) ls (.int (x ||| y) :: st) P cs ss) : J Γ A K pc ls (.int y :: .int x :: st) P cs ss := fun h H locs arr hP hR hL => lv_ior hK.x hK.b hd (k h H locs arr hP hR hL)
theorem j_ixor (hK : Jok Γ A K cc nL own hh) {x y : Int32} (hd : decode cc pc = .ok (.ixor, 1)) (k : J Γ A K (pc + 1) ls (.int (x ^^^ y) :: st) P cs ss) : J Γ A K pc ls (.int y :: .int x :: st) P cs ss := fun h H locs arr hP hR hL => lv_ixor hK.x hK.b hd (k h H locs arr hP hR hL)
theorem j_ishl (hK : Jok Γ A K cc nL own hh) {x y : Int32} (hd : decode cc pc = .ok (.ishl, 1)) (k : J Γ A K (pc + 1) ls (.int (x <<< (y &&& 31)) :: st) P cs ss) : J Γ A K pc ls (.int y :: .int x :: st) P cs ss := fun h H locs arr hP hR hL => lv_ishl hK.x hK.b hd (k h H locs arr hP hR hL)
theorem j_ishr (hK : Jok Γ A K cc nL own hh) {x y : Int32} (hd : decode cc pc = .ok (.ishr, 1)) (k : J Γ A K (pc + 1) ls (.int (x >>> (y &&& 31)) :: st) P cs ss) : J Γ A K pc ls (.int y :: .int x :: st) P cs ss := fun h H locs arr hP hR hL => lv_ishr hK.x hK.b hd (k h H locs arr hP hR hL)
theorem j_iushr (hK : Jok Γ A K cc nL own hh) {x y : Int32} (hd : decode cc pc = .ok (.iushr, 1)) (k : J Γ A K (pc + 1) ls (.int (x.toUInt32 >>> (y.toUInt32 &&& Int32.toUInt32 31)).toInt32 :: st) P cs ss) : J Γ A K pc ls (.int y :: .int x :: st) P cs ss := fun h H locs arr hP hR hL => lv_iushr hK.x hK.b hd rfl (k h H locs arr hP hR hL)
theorem j_idiv (hK : Jok Γ A K cc nL own hh) {x y : Int32} (hd : decode cc pc = .ok (.idiv, 1)) (hne : ¬ y = 0) (k : J Γ A K (pc + 1) ls (.int (x / y) :: st) P cs ss) : J Γ A K pc ls (.int y :: .int x :: st) P cs ss := fun h H locs arr hP hR hL => lv_idiv hK.x hK.b hd hne (k h H locs arr hP hR hL)
theorem j_irem_eq (x y : Int32) : x - x / y * y = x % y := irem_eq_mod x y
theorem j_irem (hK : Jok Γ A K cc nL own hh) {x y : Int32} (hd : decode cc pc = .ok (.irem, 1)) (hne : ¬ y = 0) (k : J Γ A K (pc + 1) ls (.int (x % y) :: st) P cs ss) : J Γ A K pc ls (.int y :: .int x :: st) P cs ss := fun h H locs arr hP hR hL => lv_irem hK.x hK.b hd hne (by rw [j_irem_eq]; exact k h H locs arr hP hR hL)
theorem j_ineg (hK : Jok Γ A K cc nL own hh) {x : Int32} (hd : decode cc pc = .ok (.ineg, 1)) (k : J Γ A K (pc + 1) ls (.int (-x) :: st) P cs ss) : J Γ A K pc ls (.int x :: st) P cs ss := fun h H locs arr hP hR hL => lv_ineg hK.x hK.b hd (k h H locs arr hP hR hL)
theorem j_ladd (hK : Jok Γ A K cc nL own hh) {x y : Int64} (hd : decode cc pc = .ok (.ladd, 1)) (k : J Γ A K (pc + 1) ls (.long (x + y) :: st) P cs ss) : J Γ A K pc ls (.long y :: .long x :: st) P cs ss := fun h H locs arr hP hR hL => lv_ladd hK.x hK.b hd (k h H locs arr hP hR hL)
theorem j_lmul (hK : Jok Γ A K cc nL own hh) {x y : Int64} (hd : decode cc pc = .ok (.lmul, 1)) (k : J Γ A K (pc + 1) ls (.long (x * y) :: st) P cs ss) : J Γ A K pc ls (.long y :: .long x :: st) P cs ss := fun h H locs arr hP hR hL => lv_lmul hK.x hK.b hd (k h H locs arr hP hR hL)
theorem j_ldiv (hK : Jok Γ A K cc nL own hh) {x y : Int64} (hd : decode cc pc = .ok (.ldiv, 1)) (hne : ¬ y = 0) (k : J Γ A K (pc + 1) ls (.long (x / y) :: st) P cs ss) : J Γ A K pc ls (.long y :: .long x :: st) P cs ss := fun h H locs arr hP hR hL => lv_ldiv hK.x hK.b hd hne (k h H locs arr hP hR hL)
theorem j_lrem (hK : Jok Γ A K cc nL own hh) {x y : Int64} (hd : decode cc pc = .ok (.lrem, 1)) (hne : ¬ y = 0) (k : J Γ A K (pc + 1) ls (.long (x - x / y * y) :: st) P cs ss) : J Γ A K pc ls (.long y :: .long x :: st) P cs ss := fun h H locs arr hP hR hL => lv_lrem hK.x hK.b hd hne (k h H locs arr hP hR hL)
theorem j_i2l (hK : Jok Γ A K cc nL own hh) {x : Int32} (hd : decode cc pc = .ok (.i2l, 1)) (k : J Γ A K (pc + 1) ls (.long x.toInt64 :: st) P cs ss) : J Γ A K pc ls (.int x :: st) P cs ss := fun h H locs arr hP hR hL => lv_i2l hK.x hK.b hd rfl (k h H locs arr hP hR hL)
theorem j_l2i (hK : Jok Γ A K cc nL own hh) {x : Int64} (hd : decode cc pc = .ok (.l2i, 1)) (k : J Γ A K (pc + 1) ls (.int x.toInt32 :: st) P cs ss) : J Γ A K pc ls (.long x :: st) P cs ss := fun h H locs arr hP hR hL => lv_l2i hK.x hK.b hd rfl (k h H locs arr hP hR hL)
theorem j_i2b (hK : Jok Γ A K cc nL own hh) {x : Int32} (hd : decode cc pc = .ok (.i2b, 1)) (k : J Γ A K (pc + 1) ls (.int x.toInt8.toInt32 :: st) P cs ss) : J Γ A K pc ls (.int x :: st) P cs ss := fun h H locs arr hP hR hL => lv_i2b hK.x hK.b hd rfl (k h H locs arr hP hR hL)
theorem j_i2s (hK : Jok Γ A K cc nL own hh) {x : Int32} (hd : decode cc pc = .ok (.i2s, 1)) (k : J Γ A K (pc + 1) ls (.int x.toInt16.toInt32 :: st) P cs ss) : J Γ A K pc ls (.int x :: st) P cs ss := fun h H locs arr hP hR hL => lv_i2s hK.x hK.b hd rfl (k h H locs arr hP hR hL)
theorem j_i2c (hK : Jok Γ A K cc nL own hh) {x : Int32} (hd : decode cc pc = .ok (.i2c, 1)) (k : J Γ A K (pc + 1) ls (.int (x.toUInt32 % 65536).toInt32 :: st) P cs ss) : J Γ A K pc ls (.int x :: st) P cs ss := fun h H locs arr hP hR hL => lv_i2c hK.x hK.b hd rfl (k h H locs arr hP hR hL)
theorem j_lcmp (hK : Jok Γ A K cc nL own hh) {x y : Int64} (hd : decode cc pc = .ok (.lcmp, 1)) (k : J Γ A K (pc + 1) ls (.int (lg_cmp x y) :: st) P cs ss) : J Γ A K pc ls (.long y :: .long x :: st) P cs ss := fun h H locs arr hP hR hL => W.lcmp hK.x hK.b hd (k h H locs arr hP hR hL)
theorem j_dup (hK : Jok Γ A K cc nL own hh) {v : Value} (hd : decode cc pc = .ok (.dup, 1)) (hv : v.category = 1) (k : J Γ A K (pc + 1) ls (v :: v :: st) P cs ss) : J Γ A K pc ls (v :: st) P cs ss := fun h H locs arr hP hR hL => lv_dup hK.x hK.b hd hv (k h H locs arr hP hR hL)
theorem j_pop (hK : Jok Γ A K cc nL own hh) {v : Value} (hd : decode cc pc = .ok (.pop, 1)) (hv : v.category = 1) (k : J Γ A K (pc + 1) ls (st) P cs ss) : J Γ A K pc ls (v :: st) P cs ss := fun h H locs arr hP hR hL => lv_pop hK.x hK.b hd hv (k h H locs arr hP hR hL)
theorem j_dup_x1 (hK : Jok Γ A K cc nL own hh) {v w : Value} (hd : decode cc pc = .ok (.dup_x1, 1)) (hv : v.category = 1) (hw : w.category = 1) (k : J Γ A K (pc + 1) ls (v :: w :: v :: st) P cs ss) : J Γ A K pc ls (v :: w :: st) P cs ss := fun h H locs arr hP hR hL => lv_dup_x1 hK.x hK.b hd hv hw (k h H locs arr hP hR hL)
theorem j_goto (hK : Jok Γ A K cc nL own hh) {off : Int} {tgt : Nat} (hd : decode cc pc = .ok (.goto off, 3)) (ht : (pc : Int) + off = (tgt : Int)) (k : J Γ A K tgt ls st P cs ss) : J Γ A K pc ls st P cs ss := fun h H locs arr hP hR hL => lv_goto hK.x hK.b hd ht (k h H locs arr hP hR hL)
theorem j_if_eq (hK : Jok Γ A K cc nL own hh) {x : Int32} {off : Int} {tgt : Nat} (hd : decode cc pc = .ok (.ifCond .eq off, 3)) (ht : (pc : Int) + off = (tgt : Int)) (k1 : x = 0 → J Γ A K tgt ls st P cs ss) (k2 : ¬ x = 0 → J Γ A K (pc + 3) ls st P cs ss) : J Γ A K pc ls (.int x :: st) P cs ss := fun h H locs arr hP hR hL => lv_if_eq hK.x hK.b hd ht (fun c => k1 c h H locs arr hP hR hL) (fun c => k2 c h H locs arr hP hR hL)
theorem j_icmp_eq (hK : Jok Γ A K cc nL own hh) {x y : Int32} {off : Int} {tgt : Nat} (hd : decode cc pc = .ok (.if_icmp .eq off, 3)) (ht : (pc : Int) + off = (tgt : Int)) (k1 : x = y → J Γ A K tgt ls st P cs ss) (k2 : ¬ x = y → J Γ A K (pc + 3) ls st P cs ss) : J Γ A K pc ls (.int y :: .int x :: st) P cs ss := fun h H locs arr hP hR hL => lv_icmp_eq hK.x hK.b hd ht (fun c => k1 c h H locs arr hP hR hL) (fun c => k2 c h H locs arr hP hR hL)
theorem j_if_ne (hK : Jok Γ A K cc nL own hh) {x : Int32} {off : Int} {tgt : Nat} (hd : decode cc pc = .ok (.ifCond .ne off, 3)) (ht : (pc : Int) + off = (tgt : Int)) (k1 : ¬ x = 0 → J Γ A K tgt ls st P cs ss) (k2 : x = 0 → J Γ A K (pc + 3) ls st P cs ss) : J Γ A K pc ls (.int x :: st) P cs ss := fun h H locs arr hP hR hL => lv_if_ne hK.x hK.b hd ht (fun c => k1 c h H locs arr hP hR hL) (fun c => k2 c h H locs arr hP hR hL)
theorem j_icmp_ne (hK : Jok Γ A K cc nL own hh) {x y : Int32} {off : Int} {tgt : Nat} (hd : decode cc pc = .ok (.if_icmp .ne off, 3)) (ht : (pc : Int) + off = (tgt : Int)) (k1 : ¬ x = y → J Γ A K tgt ls st P cs ss) (k2 : x = y → J Γ A K (pc + 3) ls st P cs ss) : J Γ A K pc ls (.int y :: .int x :: st) P cs ss := fun h H locs arr hP hR hL => lv_icmp_ne hK.x hK.b hd ht (fun c => k1 c h H locs arr hP hR hL) (fun c => k2 c h H locs arr hP hR hL)
theorem j_if_lt (hK : Jok Γ A K cc nL own hh) {x : Int32} {off : Int} {tgt : Nat} (hd : decode cc pc = .ok (.ifCond .lt off, 3)) (ht : (pc : Int) + off = (tgt : Int)) (k1 : x < 0 → J Γ A K tgt ls st P cs ss) (k2 : ¬ x < 0 → J Γ A K (pc + 3) ls st P cs ss) : J Γ A K pc ls (.int x :: st) P cs ss := fun h H locs arr hP hR hL => lv_if_lt hK.x hK.b hd ht (fun c => k1 c h H locs arr hP hR hL) (fun c => k2 c h H locs arr hP hR hL)
theorem j_icmp_lt (hK : Jok Γ A K cc nL own hh) {x y : Int32} {off : Int} {tgt : Nat} (hd : decode cc pc = .ok (.if_icmp .lt off, 3)) (ht : (pc : Int) + off = (tgt : Int)) (k1 : x < y → J Γ A K tgt ls st P cs ss) (k2 : ¬ x < y → J Γ A K (pc + 3) ls st P cs ss) : J Γ A K pc ls (.int y :: .int x :: st) P cs ss := fun h H locs arr hP hR hL => lv_icmp_lt hK.x hK.b hd ht (fun c => k1 c h H locs arr hP hR hL) (fun c => k2 c h H locs arr hP hR hL)
theorem j_if_ge (hK : Jok Γ A K cc nL own hh) {x : Int32} {off : Int} {tgt : Nat} (hd : decode cc pc = .ok (.ifCond .ge off, 3)) (ht : (pc : Int) + off = (tgt : Int)) (k1 : 0 ≤ x → J Γ A K tgt ls st P cs ss) (k2 : ¬ 0 ≤ x → J Γ A K (pc + 3) ls st P cs ss) : J Γ A K pc ls (.int x :: st) P cs ss := fun h H locs arr hP hR hL => lv_if_ge hK.x hK.b hd ht (fun c => k1 c h H locs arr hP hR hL) (fun c => k2 c h H locs arr hP hR hL)
theorem j_icmp_ge (hK : Jok Γ A K cc nL own hh) {x y : Int32} {off : Int} {tgt : Nat} (hd : decode cc pc = .ok (.if_icmp .ge off, 3)) (ht : (pc : Int) + off = (tgt : Int)) (k1 : y ≤ x → J Γ A K tgt ls st P cs ss) (k2 : ¬ y ≤ x → J Γ A K (pc + 3) ls st P cs ss) : J Γ A K pc ls (.int y :: .int x :: st) P cs ss := fun h H locs arr hP hR hL => lv_icmp_ge hK.x hK.b hd ht (fun c => k1 c h H locs arr hP hR hL) (fun c => k2 c h H locs arr hP hR hL)
theorem j_if_gt (hK : Jok Γ A K cc nL own hh) {x : Int32} {off : Int} {tgt : Nat} (hd : decode cc pc = .ok (.ifCond .gt off, 3)) (ht : (pc : Int) + off = (tgt : Int)) (k1 : 0 < x → J Γ A K tgt ls st P cs ss) (k2 : ¬ 0 < x → J Γ A K (pc + 3) ls st P cs ss) : J Γ A K pc ls (.int x :: st) P cs ss := fun h H locs arr hP hR hL => lv_if_gt hK.x hK.b hd ht (fun c => k1 c h H locs arr hP hR hL) (fun c => k2 c h H locs arr hP hR hL)
theorem j_icmp_gt (hK : Jok Γ A K cc nL own hh) {x y : Int32} {off : Int} {tgt : Nat} (hd : decode cc pc = .ok (.if_icmp .gt off, 3)) (ht : (pc : Int) + off = (tgt : Int)) (k1 : y < x → J Γ A K tgt ls st P cs ss) (k2 : ¬ y < x → J Γ A K (pc + 3) ls st P cs ss) : J Γ A K pc ls (.int y :: .int x :: st) P cs ss := fun h H locs arr hP hR hL => lv_icmp_gt hK.x hK.b hd ht (fun c => k1 c h H locs arr hP hR hL) (fun c => k2 c h H locs arr hP hR hL)
theorem j_if_le (hK : Jok Γ A K cc nL own hh) {x : Int32} {off : Int} {tgt : Nat} (hd : decode cc pc = .ok (.ifCond .le off, 3)) (ht : (pc : Int) + off = (tgt : Int)) (k1 : x ≤ 0 → J Γ A K tgt ls st P cs ss) (k2 : ¬ x ≤ 0 → J Γ A K (pc + 3) ls st P cs ss) : J Γ A K pc ls (.int x :: st) P cs ss := fun h H locs arr hP hR hL => lv_if_le hK.x hK.b hd ht (fun c => k1 c h H locs arr hP hR hL) (fun c => k2 c h H locs arr hP hR hL)
theorem j_icmp_le (hK : Jok Γ A K cc nL own hh) {x y : Int32} {off : Int} {tgt : Nat} (hd : decode cc pc = .ok (.if_icmp .le off, 3)) (ht : (pc : Int) + off = (tgt : Int)) (k1 : x ≤ y → J Γ A K tgt ls st P cs ss) (k2 : ¬ x ≤ y → J Γ A K (pc + 3) ls st P cs ss) : J Γ A K pc ls (.int y :: .int x :: st) P cs ss := fun h H locs arr hP hR hL => lv_icmp_le hK.x hK.b hd ht (fun c => k1 c h H locs arr hP hR hL) (fun c => k2 c h H locs arr hP hR hL)
theorem j_tableIn (hK : Jok Γ A K cc nL own hh) {dflt lo hi : Int} {offs : Array Int} {len : Nat} {x : Int32} {off : Int} {tgt : Nat} (hd : decode cc pc = .ok (.tableswitch dflt lo hi offs, len)) (h1 : ¬ x.toInt < lo) (h2 : ¬ hi < x.toInt) (ho : offs[(x.toInt - lo).toNat]? = some off) (ht : (pc : Int) + off = (tgt : Int)) (k : J Γ A K tgt ls st P cs ss) : J Γ A K pc ls (.int x :: st) P cs ss := fun h H locs arr hP hR hL => lv_tableIn hK.x hK.b hd h1 h2 ho ht (k h H locs arr hP hR hL)
theorem j_tableOut (hK : Jok Γ A K cc nL own hh) {dflt lo hi : Int} {offs : Array Int} {len : Nat} {x : Int32} {tgt : Nat} (hd : decode cc pc = .ok (.tableswitch dflt lo hi offs, len)) (h1 : x.toInt < lo ∨ hi < x.toInt) (ht : (pc : Int) + dflt = (tgt : Int)) (k : J Γ A K tgt ls st P cs ss) : J Γ A K pc ls (.int x :: st) P cs ss := fun h H locs arr hP hR hL => lv_tableOut hK.x hK.b hd h1 ht (k h H locs arr hP hR hL)
theorem j_lookup (hK : Jok Γ A K cc nL own hh) {dflt : Int} {ps : Array (Int × Int)} {len : Nat} {x : Int32} {off : Int} {tgt : Nat} (hd : decode cc pc = .ok (.lookupswitch dflt ps, len)) (hp : (ps.toList.zip (ps.toList.drop 1)).all (fun (a, next) => a.1 < next.1) = true) (ho : Op.lookupswitch.offset ps.toList dflt x.toInt = off) (ht : (pc : Int) + off = (tgt : Int)) (k : J Γ A K tgt ls st P cs ss) : J Γ A K pc ls (.int x :: st) P cs ss := fun h H locs arr hP hR hL => lv_lookup hK.x hK.b hd hp ho ht (k h H locs arr hP hR hL)
theorem j_ifnonnull (hK : Jok Γ A K cc nL own hh) {x : Nat} {off : Int} {tgt : Nat} (hd : decode cc pc = .ok (.ifnonnull off, 3)) (ht : (pc : Int) + off = (tgt : Int)) (k : J Γ A K tgt ls st P cs ss) : J Γ A K pc ls (.ref x :: st) P cs ss := fun h H locs arr hP hR hL => lv_ifnonnull hK.x hK.b hd ht (k h H locs arr hP hR hL)
theorem j_ifnull (hK : Jok Γ A K cc nL own hh) {x : Nat} {off : Int} (hd : decode cc pc = .ok (.ifnull off, 3)) (k : J Γ A K (pc + 3) ls st P cs ss) : J Γ A K pc ls (.ref x :: st) P cs ss := fun h H locs arr hP hR hL => lv_ifnull hK.x hK.b hd (k h H locs arr hP hR hL)
theorem j_ldc (hK : Jok Γ A K cc nL own hh) {index : Nat} {v : Int32} (hq : Jvm.Cond.constant own index v ∈ lw_all) (hd : decode cc pc = .ok (.ldc index, 2)) (k : J Γ A K (pc + 2) ls (.int v :: st) P cs ss) : J Γ A K pc ls st P cs ss := fun h H locs arr hP hR hL => W.ldc hK.x hK.b hK.own (hK.ts _ hq) rfl hd (k h H locs arr hP hR hL)
theorem j_ldcw (hK : Jok Γ A K cc nL own hh) {index : Nat} {v : Int32} (hq : Jvm.Cond.constant own index v ∈ lw_all) (hd : decode cc pc = .ok (.ldc_w index, 3)) (k : J Γ A K (pc + 3) ls (.int v :: st) P cs ss) : J Γ A K pc ls st P cs ss := fun h H locs arr hP hR hL => lv_ldcw hK.x hK.b hK.own (hK.ts _ hq) hd (k h H locs arr hP hR hL)
theorem j_ldc2 (hK : Jok Γ A K cc nL own hh) {index : Nat} {v : Int64} (hq : Jvm.Cond.constantLong own index v ∈ lw_all) (hd : decode cc pc = .ok (.ldc2_w index, 3)) (k : J Γ A K (pc + 3) ls (.long v :: st) P cs ss) : J Γ A K pc ls st P cs ss := fun h H locs arr hP hR hL => W.ldc2 hK.x hK.b hK.own (hK.ts _ hq) rfl hd (k h H locs arr hP hR hL)
/-- the listed locals as the kit's list -/
def prs : Nat → List (Option Value) → List (Nat × Value)
  | _, [] => []
  | k, some v :: t => (k, v) :: prs (k + 1) t
  | k, none :: t => prs (k + 1) t
theorem prs_in : ∀ (l : List (Option Value)) (k : Nat) (q : Nat × Value), q ∈ prs k l ↔ ∃ j, q.1 = k + j ∧ l[j]? = some (some q.2) := by
  intro l
  induction l with
  | nil => intro k q; simp [prs]
  | cons o t ih =>
    intro k q
    cases o with
    | none =>
      unfold prs
      rw [ih]
      constructor
      · rintro ⟨j, h1, h2⟩; exact ⟨j + 1, by omega, by simpa using h2⟩
      · rintro ⟨j, h1, h2⟩
        match j, h2 with
        | 0, h2 => simp at h2
        | j + 1, h2 => exact ⟨j, by omega, by simpa using h2⟩
    | some v =>
      unfold prs
      rw [List.mem_cons, ih]
      constructor
      · rintro (rfl | ⟨j, h1, h2⟩)
        · exact ⟨0, by simp, by simp⟩
        · exact ⟨j + 1, by omega, by simpa using h2⟩
      · rintro ⟨j, h1, h2⟩
        match j, h2 with
        | 0, h2 =>
          left
          simp at h2
          obtain ⟨a, b⟩ := q
          simp at h1 h2
          rw [h1, h2]
        | j + 1, h2 => right; exact ⟨j, by omega, by simpa using h2⟩
theorem Lr.has {arr : Array Slot} {n : Nat} {l : List (Option Value)} (h : Lr arr n l) : lv_has arr n (prs 0 l) := ⟨h.1, h.2.1, fun q hq => by
  obtain ⟨j, h1, h2⟩ := (prs_in l 0 q).mp hq
  rw [show q.1 = j by omega]
  exact h.2.2 j _ h2⟩
/-- no long stands right before i -/
def okB (l : List (Option Value)) (i : Nat) : Bool := match i with
  | 0 => true
  | j + 1 => match l[j]? with
    | some (some v) => v.category == 1
    | _ => true
theorem Lr.of1 {arr : Array Slot} {n i : Nat} {v : Value} {l : List (Option Value)} (hb : okB l i = true) (h : lv_has arr n ((i, v) :: (prs 0 l).filter (fun q => !(q.1 == i) && !(q.1 + 1 == i && q.2.category == 2)))) : Lr arr n (l.set i (some v)) := by
  refine ⟨h.1, h.2.1, fun j w hj => ?_⟩
  by_cases e : j = i
  · subst e
    rw [List.getElem?_set] at hj
    simp at hj
    rw [← hj.2]
    exact h.2.2 (j, v) List.mem_cons_self
  · rw [List.getElem?_set, if_neg (fun z => e z.symm)] at hj
    refine h.2.2 (j, w) (List.mem_cons_of_mem _ (List.mem_filter.mpr ⟨(prs_in l 0 (j, w)).mpr ⟨j, by simp, hj⟩, ?_⟩))
    simp only [Bool.and_eq_true, Bool.not_eq_true', beq_eq_false_iff_ne, ne_eq, Bool.and_eq_false_imp, beq_iff_eq]
    refine ⟨e, fun z => ?_⟩
    subst z
    simp only [okB, hj] at hb
    have := beq_iff_eq.mp hb
    omega
theorem Lr.of2 {arr : Array Slot} {n i : Nat} {v : Value} {l : List (Option Value)} (hb : okB l i = true) (h : lv_has arr n ((i, v) :: (prs 0 l).filter (fun q => !(q.1 == i) && (!(q.1 == i + 1) && !(q.1 + 1 == i && q.2.category == 2))))) : Lr arr n ((l.set i (some v)).set (i + 1) none) := by
  refine ⟨h.1, h.2.1, fun j w hj => ?_⟩
  by_cases e2 : j = i + 1
  · subst e2
    rw [List.getElem?_set] at hj
    simp at hj
  · rw [List.getElem?_set, if_neg (fun z => e2 z.symm)] at hj
    by_cases e : j = i
    · subst e
      rw [List.getElem?_set] at hj
      simp at hj
      rw [← hj.2]
      exact h.2.2 (j, v) List.mem_cons_self
    · rw [List.getElem?_set, if_neg (fun z => e z.symm)] at hj
      refine h.2.2 (j, w) (List.mem_cons_of_mem _ (List.mem_filter.mpr ⟨(prs_in l 0 (j, w)).mpr ⟨j, by simp, hj⟩, ?_⟩))
      simp only [Bool.and_eq_true, Bool.not_eq_true', beq_eq_false_iff_ne, ne_eq, Bool.and_eq_false_imp, beq_iff_eq]
      refine ⟨e, e2, fun z => ?_⟩
      subst z
      simp only [okB, hj] at hb
      have := beq_iff_eq.mp hb
      omega
theorem j_istore_g (hK : Jok Γ A K cc nL own hh) {i : Nat} {x : Int32} (hd : decode cc pc = .ok (.istore i, 2)) (hi : i < nL) (hb : okB ls i = true) (k : J Γ A K (pc + 2) (ls.set i (some (.int x))) st P cs ss) : J Γ A K pc ls (.int x :: st) P cs ss := fun h H locs arr hP hR hL => lv_istore hK.x hK.b hd hL.has (by rw [hK.ml]; exact hi) rfl (fun arr2 h2 => k h H locs arr2 hP hR (Lr.of1 hb h2))
theorem j_istore_ng (hK : Jok Γ A K cc nL own hh) {n : Fin 4} {i : Nat} {x : Int32} (hd : decode cc pc = .ok (.istore_n n, 1)) (hn : (n : Nat) = i) (hi : i < nL) (hb : okB ls i = true) (k : J Γ A K (pc + 1) (ls.set i (some (.int x))) st P cs ss) : J Γ A K pc ls (.int x :: st) P cs ss := fun h H locs arr hP hR hL => lv_istore_n hK.x hK.b hd hn hL.has (by rw [hK.ml]; exact hi) rfl (fun arr2 h2 => k h H locs arr2 hP hR (Lr.of1 hb h2))
theorem j_astore_g (hK : Jok Γ A K cc nL own hh) {i : Nat} {x : Nat} (hd : decode cc pc = .ok (.astore i, 2)) (hi : i < nL) (hb : okB ls i = true) (k : J Γ A K (pc + 2) (ls.set i (some (.ref x))) st P cs ss) : J Γ A K pc ls (.ref x :: st) P cs ss := fun h H locs arr hP hR hL => lv_astore hK.x hK.b hd hL.has (by rw [hK.ml]; exact hi) rfl (fun arr2 h2 => k h H locs arr2 hP hR (Lr.of1 hb h2))
theorem j_astore_ng (hK : Jok Γ A K cc nL own hh) {n : Fin 4} {i : Nat} {x : Nat} (hd : decode cc pc = .ok (.astore_n n, 1)) (hn : (n : Nat) = i) (hi : i < nL) (hb : okB ls i = true) (k : J Γ A K (pc + 1) (ls.set i (some (.ref x))) st P cs ss) : J Γ A K pc ls (.ref x :: st) P cs ss := fun h H locs arr hP hR hL => lv_astore_n hK.x hK.b hd hn hL.has (by rw [hK.ml]; exact hi) rfl (fun arr2 h2 => k h H locs arr2 hP hR (Lr.of1 hb h2))
theorem j_lstore_g (hK : Jok Γ A K cc nL own hh) {i : Nat} {x : Int64} (hd : decode cc pc = .ok (.lstore i, 2)) (hi : i + 1 < nL) (hb : okB ls i = true) (k : J Γ A K (pc + 2) ((ls.set i (some (.long x))).set (i + 1) none) st P cs ss) : J Γ A K pc ls (.long x :: st) P cs ss := fun h H locs arr hP hR hL => lv_lstore hK.x hK.b hd hL.has (by rw [hK.ml]; exact hi) rfl (fun arr2 h2 => k h H locs arr2 hP hR (Lr.of2 hb h2))
theorem j_lstore_ng (hK : Jok Γ A K cc nL own hh) {n : Fin 4} {i : Nat} {x : Int64} (hd : decode cc pc = .ok (.lstore_n n, 1)) (hn : (n : Nat) = i) (hi : i + 1 < nL) (hb : okB ls i = true) (k : J Γ A K (pc + 1) ((ls.set i (some (.long x))).set (i + 1) none) st P cs ss) : J Γ A K pc ls (.long x :: st) P cs ss := fun h H locs arr hP hR hL => lv_lstore_n hK.x hK.b hd hn hL.has (by rw [hK.ml]; exact hi) rfl (fun arr2 h2 => k h H locs arr2 hP hR (Lr.of2 hb h2))
theorem j_Nstore_g (hK : Jok Γ A K cc nL own hh) {i : Nat} (hd : decode cc pc = .ok (.astore i, 2)) (hi : i < nL) (hb : okB ls i = true) (k : J Γ A K (pc + 2) (ls.set i (some .null)) st P cs ss) : J Γ A K pc ls (.null :: st) P cs ss := fun h H locs arr hP hR hL => lv_astoreN hK.x hK.b hd hL.has (by rw [hK.ml]; exact hi) rfl (fun arr2 h2 => k h H locs arr2 hP hR (Lr.of1 hb h2))
theorem j_Nstore_ng (hK : Jok Γ A K cc nL own hh) {n : Fin 4} {i : Nat} (hd : decode cc pc = .ok (.astore_n n, 1)) (hn : (n : Nat) = i) (hi : i < nL) (hb : okB ls i = true) (k : J Γ A K (pc + 1) (ls.set i (some .null)) st P cs ss) : J Γ A K pc ls (.null :: st) P cs ss := fun h H locs arr hP hR hL => lv_astore_nN hK.x hK.b hd hn hL.has (by rw [hK.ml]; exact hi) rfl (fun arr2 h2 => k h H locs arr2 hP hR (Lr.of1 hb h2))
theorem j_iinc_g (hK : Jok Γ A K cc nL own hh) {i : Nat} {n : Int} {x v : Int32} (hd : decode cc pc = .ok (.iinc i n, 3)) (hl : ls[i]? = some (some (.int x))) (hi : i < nL) (hb : okB ls i = true) (hv : Int32.ofInt n = v) (k : J Γ A K (pc + 3) (ls.set i (some (.int (x + v)))) st P cs ss) : J Γ A K pc ls st P cs ss := by
  intro h H locs arr hP hR hL
  subst hv
  obtain ⟨kk, hk⟩ := List.getElem?_of_mem ((prs_in ls 0 (i, .int x)).mpr ⟨i, by simp, hl⟩)
  exact lv_iinc hK.x hK.b hd hL.has hk rfl (by rw [hK.ml]; exact hi) rfl (fun arr2 h2 => k h H locs arr2 hP hR (Lr.of1 hb h2))
theorem j_ist0 (hK : Jok Γ A K cc nL own hh) {b : Option Value} {t : List (Option Value)} {x : Int32} (hd : decode cc pc = .ok (.istore_n 0, 1)) (hi : 0 < nL) (k : J Γ A K (pc + 1) (some (.int x) :: t) st P cs ss) : J Γ A K pc (b :: t) (.int x :: st) P cs ss := j_istore_ng (i := 0) hK hd rfl hi rfl k
theorem j_ast0 (hK : Jok Γ A K cc nL own hh) {b : Option Value} {t : List (Option Value)} {x : Nat} (hd : decode cc pc = .ok (.astore_n 0, 1)) (hi : 0 < nL) (k : J Γ A K (pc + 1) (some (.ref x) :: t) st P cs ss) : J Γ A K pc (b :: t) (.ref x :: st) P cs ss := j_astore_ng (i := 0) hK hd rfl hi rfl k
theorem j_Nst0 (hK : Jok Γ A K cc nL own hh) {b : Option Value} {t : List (Option Value)} (hd : decode cc pc = .ok (.astore_n 0, 1)) (hi : 0 < nL) (k : J Γ A K (pc + 1) (some (.null) :: t) st P cs ss) : J Γ A K pc (b :: t) (.null :: st) P cs ss := j_Nstore_ng (i := 0) hK hd rfl hi rfl k
theorem j_lst0 (hK : Jok Γ A K cc nL own hh) {b : Option Value} {t : List (Option Value)} {b2 : Option Value} {x : Int64} (hd : decode cc pc = .ok (.lstore_n 0, 1)) (hi : 0 + 1 < nL) (k : J Γ A K (pc + 1) (some (.long x) :: none :: t) st P cs ss) : J Γ A K pc (b :: b2 :: t) (.long x :: st) P cs ss := j_lstore_ng (i := 0) hK hd rfl hi rfl k
theorem j_iinc0 (hK : Jok Γ A K cc nL own hh) {t : List (Option Value)} {n : Int} {x v : Int32} (hd : decode cc pc = .ok (.iinc 0 n, 3)) (hi : 0 < nL) (hv : Int32.ofInt n = v) (k : J Γ A K (pc + 3) (some (.int (x + v)) :: t) st P cs ss) : J Γ A K pc (some (.int x) :: t) st P cs ss := j_iinc_g (i := 0) hK hd rfl hi rfl hv k
theorem j_ist1 (hK : Jok Γ A K cc nL own hh) {a0 b : Option Value} {t : List (Option Value)} {x : Int32} (hd : decode cc pc = .ok (.istore_n 1, 1)) (hi : 1 < nL) (hb : okB (a0 :: b :: t) 1 = true) (k : J Γ A K (pc + 1) (a0 :: some (.int x) :: t) st P cs ss) : J Γ A K pc (a0 :: b :: t) (.int x :: st) P cs ss := j_istore_ng (i := 1) hK hd rfl hi hb k
theorem j_ast1 (hK : Jok Γ A K cc nL own hh) {a0 b : Option Value} {t : List (Option Value)} {x : Nat} (hd : decode cc pc = .ok (.astore_n 1, 1)) (hi : 1 < nL) (hb : okB (a0 :: b :: t) 1 = true) (k : J Γ A K (pc + 1) (a0 :: some (.ref x) :: t) st P cs ss) : J Γ A K pc (a0 :: b :: t) (.ref x :: st) P cs ss := j_astore_ng (i := 1) hK hd rfl hi hb k
theorem j_Nst1 (hK : Jok Γ A K cc nL own hh) {a0 b : Option Value} {t : List (Option Value)} (hd : decode cc pc = .ok (.astore_n 1, 1)) (hi : 1 < nL) (hb : okB (a0 :: b :: t) 1 = true) (k : J Γ A K (pc + 1) (a0 :: some (.null) :: t) st P cs ss) : J Γ A K pc (a0 :: b :: t) (.null :: st) P cs ss := j_Nstore_ng (i := 1) hK hd rfl hi hb k
theorem j_lst1 (hK : Jok Γ A K cc nL own hh) {a0 b : Option Value} {t : List (Option Value)} {b2 : Option Value} {x : Int64} (hd : decode cc pc = .ok (.lstore_n 1, 1)) (hi : 1 + 1 < nL) (hb : okB (a0 :: b :: b2 :: t) 1 = true) (k : J Γ A K (pc + 1) (a0 :: some (.long x) :: none :: t) st P cs ss) : J Γ A K pc (a0 :: b :: b2 :: t) (.long x :: st) P cs ss := j_lstore_ng (i := 1) hK hd rfl hi hb k
theorem j_iinc1 (hK : Jok Γ A K cc nL own hh) {a0 : Option Value} {t : List (Option Value)} {n : Int} {x v : Int32} (hd : decode cc pc = .ok (.iinc 1 n, 3)) (hi : 1 < nL) (hb : okB (a0 :: some (.int x) :: t) 1 = true) (hv : Int32.ofInt n = v) (k : J Γ A K (pc + 3) (a0 :: some (.int (x + v)) :: t) st P cs ss) : J Γ A K pc (a0 :: some (.int x) :: t) st P cs ss := j_iinc_g (i := 1) hK hd rfl hi hb hv k
theorem j_ist2 (hK : Jok Γ A K cc nL own hh) {a0 a1 b : Option Value} {t : List (Option Value)} {x : Int32} (hd : decode cc pc = .ok (.istore_n 2, 1)) (hi : 2 < nL) (hb : okB (a0 :: a1 :: b :: t) 2 = true) (k : J Γ A K (pc + 1) (a0 :: a1 :: some (.int x) :: t) st P cs ss) : J Γ A K pc (a0 :: a1 :: b :: t) (.int x :: st) P cs ss := j_istore_ng (i := 2) hK hd rfl hi hb k
theorem j_ast2 (hK : Jok Γ A K cc nL own hh) {a0 a1 b : Option Value} {t : List (Option Value)} {x : Nat} (hd : decode cc pc = .ok (.astore_n 2, 1)) (hi : 2 < nL) (hb : okB (a0 :: a1 :: b :: t) 2 = true) (k : J Γ A K (pc + 1) (a0 :: a1 :: some (.ref x) :: t) st P cs ss) : J Γ A K pc (a0 :: a1 :: b :: t) (.ref x :: st) P cs ss := j_astore_ng (i := 2) hK hd rfl hi hb k
theorem j_Nst2 (hK : Jok Γ A K cc nL own hh) {a0 a1 b : Option Value} {t : List (Option Value)} (hd : decode cc pc = .ok (.astore_n 2, 1)) (hi : 2 < nL) (hb : okB (a0 :: a1 :: b :: t) 2 = true) (k : J Γ A K (pc + 1) (a0 :: a1 :: some (.null) :: t) st P cs ss) : J Γ A K pc (a0 :: a1 :: b :: t) (.null :: st) P cs ss := j_Nstore_ng (i := 2) hK hd rfl hi hb k
theorem j_lst2 (hK : Jok Γ A K cc nL own hh) {a0 a1 b : Option Value} {t : List (Option Value)} {b2 : Option Value} {x : Int64} (hd : decode cc pc = .ok (.lstore_n 2, 1)) (hi : 2 + 1 < nL) (hb : okB (a0 :: a1 :: b :: b2 :: t) 2 = true) (k : J Γ A K (pc + 1) (a0 :: a1 :: some (.long x) :: none :: t) st P cs ss) : J Γ A K pc (a0 :: a1 :: b :: b2 :: t) (.long x :: st) P cs ss := j_lstore_ng (i := 2) hK hd rfl hi hb k
theorem j_iinc2 (hK : Jok Γ A K cc nL own hh) {a0 a1 : Option Value} {t : List (Option Value)} {n : Int} {x v : Int32} (hd : decode cc pc = .ok (.iinc 2 n, 3)) (hi : 2 < nL) (hb : okB (a0 :: a1 :: some (.int x) :: t) 2 = true) (hv : Int32.ofInt n = v) (k : J Γ A K (pc + 3) (a0 :: a1 :: some (.int (x + v)) :: t) st P cs ss) : J Γ A K pc (a0 :: a1 :: some (.int x) :: t) st P cs ss := j_iinc_g (i := 2) hK hd rfl hi hb hv k
theorem j_ist3 (hK : Jok Γ A K cc nL own hh) {a0 a1 a2 b : Option Value} {t : List (Option Value)} {x : Int32} (hd : decode cc pc = .ok (.istore_n 3, 1)) (hi : 3 < nL) (hb : okB (a0 :: a1 :: a2 :: b :: t) 3 = true) (k : J Γ A K (pc + 1) (a0 :: a1 :: a2 :: some (.int x) :: t) st P cs ss) : J Γ A K pc (a0 :: a1 :: a2 :: b :: t) (.int x :: st) P cs ss := j_istore_ng (i := 3) hK hd rfl hi hb k
theorem j_ast3 (hK : Jok Γ A K cc nL own hh) {a0 a1 a2 b : Option Value} {t : List (Option Value)} {x : Nat} (hd : decode cc pc = .ok (.astore_n 3, 1)) (hi : 3 < nL) (hb : okB (a0 :: a1 :: a2 :: b :: t) 3 = true) (k : J Γ A K (pc + 1) (a0 :: a1 :: a2 :: some (.ref x) :: t) st P cs ss) : J Γ A K pc (a0 :: a1 :: a2 :: b :: t) (.ref x :: st) P cs ss := j_astore_ng (i := 3) hK hd rfl hi hb k
theorem j_Nst3 (hK : Jok Γ A K cc nL own hh) {a0 a1 a2 b : Option Value} {t : List (Option Value)} (hd : decode cc pc = .ok (.astore_n 3, 1)) (hi : 3 < nL) (hb : okB (a0 :: a1 :: a2 :: b :: t) 3 = true) (k : J Γ A K (pc + 1) (a0 :: a1 :: a2 :: some (.null) :: t) st P cs ss) : J Γ A K pc (a0 :: a1 :: a2 :: b :: t) (.null :: st) P cs ss := j_Nstore_ng (i := 3) hK hd rfl hi hb k
theorem j_lst3 (hK : Jok Γ A K cc nL own hh) {a0 a1 a2 b : Option Value} {t : List (Option Value)} {b2 : Option Value} {x : Int64} (hd : decode cc pc = .ok (.lstore_n 3, 1)) (hi : 3 + 1 < nL) (hb : okB (a0 :: a1 :: a2 :: b :: b2 :: t) 3 = true) (k : J Γ A K (pc + 1) (a0 :: a1 :: a2 :: some (.long x) :: none :: t) st P cs ss) : J Γ A K pc (a0 :: a1 :: a2 :: b :: b2 :: t) (.long x :: st) P cs ss := j_lstore_ng (i := 3) hK hd rfl hi hb k
theorem j_iinc3 (hK : Jok Γ A K cc nL own hh) {a0 a1 a2 : Option Value} {t : List (Option Value)} {n : Int} {x v : Int32} (hd : decode cc pc = .ok (.iinc 3 n, 3)) (hi : 3 < nL) (hb : okB (a0 :: a1 :: a2 :: some (.int x) :: t) 3 = true) (hv : Int32.ofInt n = v) (k : J Γ A K (pc + 3) (a0 :: a1 :: a2 :: some (.int (x + v)) :: t) st P cs ss) : J Γ A K pc (a0 :: a1 :: a2 :: some (.int x) :: t) st P cs ss := j_iinc_g (i := 3) hK hd rfl hi hb hv k
theorem j_ist4 (hK : Jok Γ A K cc nL own hh) {a0 a1 a2 a3 b : Option Value} {t : List (Option Value)} {x : Int32} (hd : decode cc pc = .ok (.istore 4, 2)) (hi : 4 < nL) (hb : okB (a0 :: a1 :: a2 :: a3 :: b :: t) 4 = true) (k : J Γ A K (pc + 2) (a0 :: a1 :: a2 :: a3 :: some (.int x) :: t) st P cs ss) : J Γ A K pc (a0 :: a1 :: a2 :: a3 :: b :: t) (.int x :: st) P cs ss := j_istore_g (i := 4) hK hd hi hb k
theorem j_ast4 (hK : Jok Γ A K cc nL own hh) {a0 a1 a2 a3 b : Option Value} {t : List (Option Value)} {x : Nat} (hd : decode cc pc = .ok (.astore 4, 2)) (hi : 4 < nL) (hb : okB (a0 :: a1 :: a2 :: a3 :: b :: t) 4 = true) (k : J Γ A K (pc + 2) (a0 :: a1 :: a2 :: a3 :: some (.ref x) :: t) st P cs ss) : J Γ A K pc (a0 :: a1 :: a2 :: a3 :: b :: t) (.ref x :: st) P cs ss := j_astore_g (i := 4) hK hd hi hb k
theorem j_Nst4 (hK : Jok Γ A K cc nL own hh) {a0 a1 a2 a3 b : Option Value} {t : List (Option Value)} (hd : decode cc pc = .ok (.astore 4, 2)) (hi : 4 < nL) (hb : okB (a0 :: a1 :: a2 :: a3 :: b :: t) 4 = true) (k : J Γ A K (pc + 2) (a0 :: a1 :: a2 :: a3 :: some (.null) :: t) st P cs ss) : J Γ A K pc (a0 :: a1 :: a2 :: a3 :: b :: t) (.null :: st) P cs ss := j_Nstore_g (i := 4) hK hd hi hb k
theorem j_lst4 (hK : Jok Γ A K cc nL own hh) {a0 a1 a2 a3 b : Option Value} {t : List (Option Value)} {b2 : Option Value} {x : Int64} (hd : decode cc pc = .ok (.lstore 4, 2)) (hi : 4 + 1 < nL) (hb : okB (a0 :: a1 :: a2 :: a3 :: b :: b2 :: t) 4 = true) (k : J Γ A K (pc + 2) (a0 :: a1 :: a2 :: a3 :: some (.long x) :: none :: t) st P cs ss) : J Γ A K pc (a0 :: a1 :: a2 :: a3 :: b :: b2 :: t) (.long x :: st) P cs ss := j_lstore_g (i := 4) hK hd hi hb k
theorem j_iinc4 (hK : Jok Γ A K cc nL own hh) {a0 a1 a2 a3 : Option Value} {t : List (Option Value)} {n : Int} {x v : Int32} (hd : decode cc pc = .ok (.iinc 4 n, 3)) (hi : 4 < nL) (hb : okB (a0 :: a1 :: a2 :: a3 :: some (.int x) :: t) 4 = true) (hv : Int32.ofInt n = v) (k : J Γ A K (pc + 3) (a0 :: a1 :: a2 :: a3 :: some (.int (x + v)) :: t) st P cs ss) : J Γ A K pc (a0 :: a1 :: a2 :: a3 :: some (.int x) :: t) st P cs ss := j_iinc_g (i := 4) hK hd rfl hi hb hv k
theorem j_ist5 (hK : Jok Γ A K cc nL own hh) {a0 a1 a2 a3 a4 b : Option Value} {t : List (Option Value)} {x : Int32} (hd : decode cc pc = .ok (.istore 5, 2)) (hi : 5 < nL) (hb : okB (a0 :: a1 :: a2 :: a3 :: a4 :: b :: t) 5 = true) (k : J Γ A K (pc + 2) (a0 :: a1 :: a2 :: a3 :: a4 :: some (.int x) :: t) st P cs ss) : J Γ A K pc (a0 :: a1 :: a2 :: a3 :: a4 :: b :: t) (.int x :: st) P cs ss := j_istore_g (i := 5) hK hd hi hb k
theorem j_ast5 (hK : Jok Γ A K cc nL own hh) {a0 a1 a2 a3 a4 b : Option Value} {t : List (Option Value)} {x : Nat} (hd : decode cc pc = .ok (.astore 5, 2)) (hi : 5 < nL) (hb : okB (a0 :: a1 :: a2 :: a3 :: a4 :: b :: t) 5 = true) (k : J Γ A K (pc + 2) (a0 :: a1 :: a2 :: a3 :: a4 :: some (.ref x) :: t) st P cs ss) : J Γ A K pc (a0 :: a1 :: a2 :: a3 :: a4 :: b :: t) (.ref x :: st) P cs ss := j_astore_g (i := 5) hK hd hi hb k
theorem j_Nst5 (hK : Jok Γ A K cc nL own hh) {a0 a1 a2 a3 a4 b : Option Value} {t : List (Option Value)} (hd : decode cc pc = .ok (.astore 5, 2)) (hi : 5 < nL) (hb : okB (a0 :: a1 :: a2 :: a3 :: a4 :: b :: t) 5 = true) (k : J Γ A K (pc + 2) (a0 :: a1 :: a2 :: a3 :: a4 :: some (.null) :: t) st P cs ss) : J Γ A K pc (a0 :: a1 :: a2 :: a3 :: a4 :: b :: t) (.null :: st) P cs ss := j_Nstore_g (i := 5) hK hd hi hb k
theorem j_lst5 (hK : Jok Γ A K cc nL own hh) {a0 a1 a2 a3 a4 b : Option Value} {t : List (Option Value)} {b2 : Option Value} {x : Int64} (hd : decode cc pc = .ok (.lstore 5, 2)) (hi : 5 + 1 < nL) (hb : okB (a0 :: a1 :: a2 :: a3 :: a4 :: b :: b2 :: t) 5 = true) (k : J Γ A K (pc + 2) (a0 :: a1 :: a2 :: a3 :: a4 :: some (.long x) :: none :: t) st P cs ss) : J Γ A K pc (a0 :: a1 :: a2 :: a3 :: a4 :: b :: b2 :: t) (.long x :: st) P cs ss := j_lstore_g (i := 5) hK hd hi hb k
theorem j_iinc5 (hK : Jok Γ A K cc nL own hh) {a0 a1 a2 a3 a4 : Option Value} {t : List (Option Value)} {n : Int} {x v : Int32} (hd : decode cc pc = .ok (.iinc 5 n, 3)) (hi : 5 < nL) (hb : okB (a0 :: a1 :: a2 :: a3 :: a4 :: some (.int x) :: t) 5 = true) (hv : Int32.ofInt n = v) (k : J Γ A K (pc + 3) (a0 :: a1 :: a2 :: a3 :: a4 :: some (.int (x + v)) :: t) st P cs ss) : J Γ A K pc (a0 :: a1 :: a2 :: a3 :: a4 :: some (.int x) :: t) st P cs ss := j_iinc_g (i := 5) hK hd rfl hi hb hv k
theorem j_ist6 (hK : Jok Γ A K cc nL own hh) {a0 a1 a2 a3 a4 a5 b : Option Value} {t : List (Option Value)} {x : Int32} (hd : decode cc pc = .ok (.istore 6, 2)) (hi : 6 < nL) (hb : okB (a0 :: a1 :: a2 :: a3 :: a4 :: a5 :: b :: t) 6 = true) (k : J Γ A K (pc + 2) (a0 :: a1 :: a2 :: a3 :: a4 :: a5 :: some (.int x) :: t) st P cs ss) : J Γ A K pc (a0 :: a1 :: a2 :: a3 :: a4 :: a5 :: b :: t) (.int x :: st) P cs ss := j_istore_g (i := 6) hK hd hi hb k
theorem j_ast6 (hK : Jok Γ A K cc nL own hh) {a0 a1 a2 a3 a4 a5 b : Option Value} {t : List (Option Value)} {x : Nat} (hd : decode cc pc = .ok (.astore 6, 2)) (hi : 6 < nL) (hb : okB (a0 :: a1 :: a2 :: a3 :: a4 :: a5 :: b :: t) 6 = true) (k : J Γ A K (pc + 2) (a0 :: a1 :: a2 :: a3 :: a4 :: a5 :: some (.ref x) :: t) st P cs ss) : J Γ A K pc (a0 :: a1 :: a2 :: a3 :: a4 :: a5 :: b :: t) (.ref x :: st) P cs ss := j_astore_g (i := 6) hK hd hi hb k
theorem j_Nst6 (hK : Jok Γ A K cc nL own hh) {a0 a1 a2 a3 a4 a5 b : Option Value} {t : List (Option Value)} (hd : decode cc pc = .ok (.astore 6, 2)) (hi : 6 < nL) (hb : okB (a0 :: a1 :: a2 :: a3 :: a4 :: a5 :: b :: t) 6 = true) (k : J Γ A K (pc + 2) (a0 :: a1 :: a2 :: a3 :: a4 :: a5 :: some (.null) :: t) st P cs ss) : J Γ A K pc (a0 :: a1 :: a2 :: a3 :: a4 :: a5 :: b :: t) (.null :: st) P cs ss := j_Nstore_g (i := 6) hK hd hi hb k
theorem j_lst6 (hK : Jok Γ A K cc nL own hh) {a0 a1 a2 a3 a4 a5 b : Option Value} {t : List (Option Value)} {b2 : Option Value} {x : Int64} (hd : decode cc pc = .ok (.lstore 6, 2)) (hi : 6 + 1 < nL) (hb : okB (a0 :: a1 :: a2 :: a3 :: a4 :: a5 :: b :: b2 :: t) 6 = true) (k : J Γ A K (pc + 2) (a0 :: a1 :: a2 :: a3 :: a4 :: a5 :: some (.long x) :: none :: t) st P cs ss) : J Γ A K pc (a0 :: a1 :: a2 :: a3 :: a4 :: a5 :: b :: b2 :: t) (.long x :: st) P cs ss := j_lstore_g (i := 6) hK hd hi hb k
theorem j_iinc6 (hK : Jok Γ A K cc nL own hh) {a0 a1 a2 a3 a4 a5 : Option Value} {t : List (Option Value)} {n : Int} {x v : Int32} (hd : decode cc pc = .ok (.iinc 6 n, 3)) (hi : 6 < nL) (hb : okB (a0 :: a1 :: a2 :: a3 :: a4 :: a5 :: some (.int x) :: t) 6 = true) (hv : Int32.ofInt n = v) (k : J Γ A K (pc + 3) (a0 :: a1 :: a2 :: a3 :: a4 :: a5 :: some (.int (x + v)) :: t) st P cs ss) : J Γ A K pc (a0 :: a1 :: a2 :: a3 :: a4 :: a5 :: some (.int x) :: t) st P cs ss := j_iinc_g (i := 6) hK hd rfl hi hb hv k
theorem j_ist7 (hK : Jok Γ A K cc nL own hh) {a0 a1 a2 a3 a4 a5 a6 b : Option Value} {t : List (Option Value)} {x : Int32} (hd : decode cc pc = .ok (.istore 7, 2)) (hi : 7 < nL) (hb : okB (a0 :: a1 :: a2 :: a3 :: a4 :: a5 :: a6 :: b :: t) 7 = true) (k : J Γ A K (pc + 2) (a0 :: a1 :: a2 :: a3 :: a4 :: a5 :: a6 :: some (.int x) :: t) st P cs ss) : J Γ A K pc (a0 :: a1 :: a2 :: a3 :: a4 :: a5 :: a6 :: b :: t) (.int x :: st) P cs ss := j_istore_g (i := 7) hK hd hi hb k
theorem j_ast7 (hK : Jok Γ A K cc nL own hh) {a0 a1 a2 a3 a4 a5 a6 b : Option Value} {t : List (Option Value)} {x : Nat} (hd : decode cc pc = .ok (.astore 7, 2)) (hi : 7 < nL) (hb : okB (a0 :: a1 :: a2 :: a3 :: a4 :: a5 :: a6 :: b :: t) 7 = true) (k : J Γ A K (pc + 2) (a0 :: a1 :: a2 :: a3 :: a4 :: a5 :: a6 :: some (.ref x) :: t) st P cs ss) : J Γ A K pc (a0 :: a1 :: a2 :: a3 :: a4 :: a5 :: a6 :: b :: t) (.ref x :: st) P cs ss := j_astore_g (i := 7) hK hd hi hb k
theorem j_Nst7 (hK : Jok Γ A K cc nL own hh) {a0 a1 a2 a3 a4 a5 a6 b : Option Value} {t : List (Option Value)} (hd : decode cc pc = .ok (.astore 7, 2)) (hi : 7 < nL) (hb : okB (a0 :: a1 :: a2 :: a3 :: a4 :: a5 :: a6 :: b :: t) 7 = true) (k : J Γ A K (pc + 2) (a0 :: a1 :: a2 :: a3 :: a4 :: a5 :: a6 :: some (.null) :: t) st P cs ss) : J Γ A K pc (a0 :: a1 :: a2 :: a3 :: a4 :: a5 :: a6 :: b :: t) (.null :: st) P cs ss := j_Nstore_g (i := 7) hK hd hi hb k
theorem j_lst7 (hK : Jok Γ A K cc nL own hh) {a0 a1 a2 a3 a4 a5 a6 b : Option Value} {t : List (Option Value)} {b2 : Option Value} {x : Int64} (hd : decode cc pc = .ok (.lstore 7, 2)) (hi : 7 + 1 < nL) (hb : okB (a0 :: a1 :: a2 :: a3 :: a4 :: a5 :: a6 :: b :: b2 :: t) 7 = true) (k : J Γ A K (pc + 2) (a0 :: a1 :: a2 :: a3 :: a4 :: a5 :: a6 :: some (.long x) :: none :: t) st P cs ss) : J Γ A K pc (a0 :: a1 :: a2 :: a3 :: a4 :: a5 :: a6 :: b :: b2 :: t) (.long x :: st) P cs ss := j_lstore_g (i := 7) hK hd hi hb k
theorem j_iinc7 (hK : Jok Γ A K cc nL own hh) {a0 a1 a2 a3 a4 a5 a6 : Option Value} {t : List (Option Value)} {n : Int} {x v : Int32} (hd : decode cc pc = .ok (.iinc 7 n, 3)) (hi : 7 < nL) (hb : okB (a0 :: a1 :: a2 :: a3 :: a4 :: a5 :: a6 :: some (.int x) :: t) 7 = true) (hv : Int32.ofInt n = v) (k : J Γ A K (pc + 3) (a0 :: a1 :: a2 :: a3 :: a4 :: a5 :: a6 :: some (.int (x + v)) :: t) st P cs ss) : J Γ A K pc (a0 :: a1 :: a2 :: a3 :: a4 :: a5 :: a6 :: some (.int x) :: t) st P cs ss := j_iinc_g (i := 7) hK hd rfl hi hb hv k
theorem j_ist8 (hK : Jok Γ A K cc nL own hh) {a0 a1 a2 a3 a4 a5 a6 a7 b : Option Value} {t : List (Option Value)} {x : Int32} (hd : decode cc pc = .ok (.istore 8, 2)) (hi : 8 < nL) (hb : okB (a0 :: a1 :: a2 :: a3 :: a4 :: a5 :: a6 :: a7 :: b :: t) 8 = true) (k : J Γ A K (pc + 2) (a0 :: a1 :: a2 :: a3 :: a4 :: a5 :: a6 :: a7 :: some (.int x) :: t) st P cs ss) : J Γ A K pc (a0 :: a1 :: a2 :: a3 :: a4 :: a5 :: a6 :: a7 :: b :: t) (.int x :: st) P cs ss := j_istore_g (i := 8) hK hd hi hb k
theorem j_ast8 (hK : Jok Γ A K cc nL own hh) {a0 a1 a2 a3 a4 a5 a6 a7 b : Option Value} {t : List (Option Value)} {x : Nat} (hd : decode cc pc = .ok (.astore 8, 2)) (hi : 8 < nL) (hb : okB (a0 :: a1 :: a2 :: a3 :: a4 :: a5 :: a6 :: a7 :: b :: t) 8 = true) (k : J Γ A K (pc + 2) (a0 :: a1 :: a2 :: a3 :: a4 :: a5 :: a6 :: a7 :: some (.ref x) :: t) st P cs ss) : J Γ A K pc (a0 :: a1 :: a2 :: a3 :: a4 :: a5 :: a6 :: a7 :: b :: t) (.ref x :: st) P cs ss := j_astore_g (i := 8) hK hd hi hb k
theorem j_Nst8 (hK : Jok Γ A K cc nL own hh) {a0 a1 a2 a3 a4 a5 a6 a7 b : Option Value} {t : List (Option Value)} (hd : decode cc pc = .ok (.astore 8, 2)) (hi : 8 < nL) (hb : okB (a0 :: a1 :: a2 :: a3 :: a4 :: a5 :: a6 :: a7 :: b :: t) 8 = true) (k : J Γ A K (pc + 2) (a0 :: a1 :: a2 :: a3 :: a4 :: a5 :: a6 :: a7 :: some (.null) :: t) st P cs ss) : J Γ A K pc (a0 :: a1 :: a2 :: a3 :: a4 :: a5 :: a6 :: a7 :: b :: t) (.null :: st) P cs ss := j_Nstore_g (i := 8) hK hd hi hb k
theorem j_lst8 (hK : Jok Γ A K cc nL own hh) {a0 a1 a2 a3 a4 a5 a6 a7 b : Option Value} {t : List (Option Value)} {b2 : Option Value} {x : Int64} (hd : decode cc pc = .ok (.lstore 8, 2)) (hi : 8 + 1 < nL) (hb : okB (a0 :: a1 :: a2 :: a3 :: a4 :: a5 :: a6 :: a7 :: b :: b2 :: t) 8 = true) (k : J Γ A K (pc + 2) (a0 :: a1 :: a2 :: a3 :: a4 :: a5 :: a6 :: a7 :: some (.long x) :: none :: t) st P cs ss) : J Γ A K pc (a0 :: a1 :: a2 :: a3 :: a4 :: a5 :: a6 :: a7 :: b :: b2 :: t) (.long x :: st) P cs ss := j_lstore_g (i := 8) hK hd hi hb k
theorem j_iinc8 (hK : Jok Γ A K cc nL own hh) {a0 a1 a2 a3 a4 a5 a6 a7 : Option Value} {t : List (Option Value)} {n : Int} {x v : Int32} (hd : decode cc pc = .ok (.iinc 8 n, 3)) (hi : 8 < nL) (hb : okB (a0 :: a1 :: a2 :: a3 :: a4 :: a5 :: a6 :: a7 :: some (.int x) :: t) 8 = true) (hv : Int32.ofInt n = v) (k : J Γ A K (pc + 3) (a0 :: a1 :: a2 :: a3 :: a4 :: a5 :: a6 :: a7 :: some (.int (x + v)) :: t) st P cs ss) : J Γ A K pc (a0 :: a1 :: a2 :: a3 :: a4 :: a5 :: a6 :: a7 :: some (.int x) :: t) st P cs ss := j_iinc_g (i := 8) hK hd rfl hi hb hv k
theorem j_ist9 (hK : Jok Γ A K cc nL own hh) {a0 a1 a2 a3 a4 a5 a6 a7 a8 b : Option Value} {t : List (Option Value)} {x : Int32} (hd : decode cc pc = .ok (.istore 9, 2)) (hi : 9 < nL) (hb : okB (a0 :: a1 :: a2 :: a3 :: a4 :: a5 :: a6 :: a7 :: a8 :: b :: t) 9 = true) (k : J Γ A K (pc + 2) (a0 :: a1 :: a2 :: a3 :: a4 :: a5 :: a6 :: a7 :: a8 :: some (.int x) :: t) st P cs ss) : J Γ A K pc (a0 :: a1 :: a2 :: a3 :: a4 :: a5 :: a6 :: a7 :: a8 :: b :: t) (.int x :: st) P cs ss := j_istore_g (i := 9) hK hd hi hb k
theorem j_ast9 (hK : Jok Γ A K cc nL own hh) {a0 a1 a2 a3 a4 a5 a6 a7 a8 b : Option Value} {t : List (Option Value)} {x : Nat} (hd : decode cc pc = .ok (.astore 9, 2)) (hi : 9 < nL) (hb : okB (a0 :: a1 :: a2 :: a3 :: a4 :: a5 :: a6 :: a7 :: a8 :: b :: t) 9 = true) (k : J Γ A K (pc + 2) (a0 :: a1 :: a2 :: a3 :: a4 :: a5 :: a6 :: a7 :: a8 :: some (.ref x) :: t) st P cs ss) : J Γ A K pc (a0 :: a1 :: a2 :: a3 :: a4 :: a5 :: a6 :: a7 :: a8 :: b :: t) (.ref x :: st) P cs ss := j_astore_g (i := 9) hK hd hi hb k
theorem j_Nst9 (hK : Jok Γ A K cc nL own hh) {a0 a1 a2 a3 a4 a5 a6 a7 a8 b : Option Value} {t : List (Option Value)} (hd : decode cc pc = .ok (.astore 9, 2)) (hi : 9 < nL) (hb : okB (a0 :: a1 :: a2 :: a3 :: a4 :: a5 :: a6 :: a7 :: a8 :: b :: t) 9 = true) (k : J Γ A K (pc + 2) (a0 :: a1 :: a2 :: a3 :: a4 :: a5 :: a6 :: a7 :: a8 :: some (.null) :: t) st P cs ss) : J Γ A K pc (a0 :: a1 :: a2 :: a3 :: a4 :: a5 :: a6 :: a7 :: a8 :: b :: t) (.null :: st) P cs ss := j_Nstore_g (i := 9) hK hd hi hb k
theorem j_lst9 (hK : Jok Γ A K cc nL own hh) {a0 a1 a2 a3 a4 a5 a6 a7 a8 b : Option Value} {t : List (Option Value)} {b2 : Option Value} {x : Int64} (hd : decode cc pc = .ok (.lstore 9, 2)) (hi : 9 + 1 < nL) (hb : okB (a0 :: a1 :: a2 :: a3 :: a4 :: a5 :: a6 :: a7 :: a8 :: b :: b2 :: t) 9 = true) (k : J Γ A K (pc + 2) (a0 :: a1 :: a2 :: a3 :: a4 :: a5 :: a6 :: a7 :: a8 :: some (.long x) :: none :: t) st P cs ss) : J Γ A K pc (a0 :: a1 :: a2 :: a3 :: a4 :: a5 :: a6 :: a7 :: a8 :: b :: b2 :: t) (.long x :: st) P cs ss := j_lstore_g (i := 9) hK hd hi hb k
theorem j_iinc9 (hK : Jok Γ A K cc nL own hh) {a0 a1 a2 a3 a4 a5 a6 a7 a8 : Option Value} {t : List (Option Value)} {n : Int} {x v : Int32} (hd : decode cc pc = .ok (.iinc 9 n, 3)) (hi : 9 < nL) (hb : okB (a0 :: a1 :: a2 :: a3 :: a4 :: a5 :: a6 :: a7 :: a8 :: some (.int x) :: t) 9 = true) (hv : Int32.ofInt n = v) (k : J Γ A K (pc + 3) (a0 :: a1 :: a2 :: a3 :: a4 :: a5 :: a6 :: a7 :: a8 :: some (.int (x + v)) :: t) st P cs ss) : J Γ A K pc (a0 :: a1 :: a2 :: a3 :: a4 :: a5 :: a6 :: a7 :: a8 :: some (.int x) :: t) st P cs ss := j_iinc_g (i := 9) hK hd rfl hi hb hv k
theorem j_ist10 (hK : Jok Γ A K cc nL own hh) {a0 a1 a2 a3 a4 a5 a6 a7 a8 a9 b : Option Value} {t : List (Option Value)} {x : Int32} (hd : decode cc pc = .ok (.istore 10, 2)) (hi : 10 < nL) (hb : okB (a0 :: a1 :: a2 :: a3 :: a4 :: a5 :: a6 :: a7 :: a8 :: a9 :: b :: t) 10 = true) (k : J Γ A K (pc + 2) (a0 :: a1 :: a2 :: a3 :: a4 :: a5 :: a6 :: a7 :: a8 :: a9 :: some (.int x) :: t) st P cs ss) : J Γ A K pc (a0 :: a1 :: a2 :: a3 :: a4 :: a5 :: a6 :: a7 :: a8 :: a9 :: b :: t) (.int x :: st) P cs ss := j_istore_g (i := 10) hK hd hi hb k
theorem j_ast10 (hK : Jok Γ A K cc nL own hh) {a0 a1 a2 a3 a4 a5 a6 a7 a8 a9 b : Option Value} {t : List (Option Value)} {x : Nat} (hd : decode cc pc = .ok (.astore 10, 2)) (hi : 10 < nL) (hb : okB (a0 :: a1 :: a2 :: a3 :: a4 :: a5 :: a6 :: a7 :: a8 :: a9 :: b :: t) 10 = true) (k : J Γ A K (pc + 2) (a0 :: a1 :: a2 :: a3 :: a4 :: a5 :: a6 :: a7 :: a8 :: a9 :: some (.ref x) :: t) st P cs ss) : J Γ A K pc (a0 :: a1 :: a2 :: a3 :: a4 :: a5 :: a6 :: a7 :: a8 :: a9 :: b :: t) (.ref x :: st) P cs ss := j_astore_g (i := 10) hK hd hi hb k
theorem j_Nst10 (hK : Jok Γ A K cc nL own hh) {a0 a1 a2 a3 a4 a5 a6 a7 a8 a9 b : Option Value} {t : List (Option Value)} (hd : decode cc pc = .ok (.astore 10, 2)) (hi : 10 < nL) (hb : okB (a0 :: a1 :: a2 :: a3 :: a4 :: a5 :: a6 :: a7 :: a8 :: a9 :: b :: t) 10 = true) (k : J Γ A K (pc + 2) (a0 :: a1 :: a2 :: a3 :: a4 :: a5 :: a6 :: a7 :: a8 :: a9 :: some (.null) :: t) st P cs ss) : J Γ A K pc (a0 :: a1 :: a2 :: a3 :: a4 :: a5 :: a6 :: a7 :: a8 :: a9 :: b :: t) (.null :: st) P cs ss := j_Nstore_g (i := 10) hK hd hi hb k
theorem j_lst10 (hK : Jok Γ A K cc nL own hh) {a0 a1 a2 a3 a4 a5 a6 a7 a8 a9 b : Option Value} {t : List (Option Value)} {b2 : Option Value} {x : Int64} (hd : decode cc pc = .ok (.lstore 10, 2)) (hi : 10 + 1 < nL) (hb : okB (a0 :: a1 :: a2 :: a3 :: a4 :: a5 :: a6 :: a7 :: a8 :: a9 :: b :: b2 :: t) 10 = true) (k : J Γ A K (pc + 2) (a0 :: a1 :: a2 :: a3 :: a4 :: a5 :: a6 :: a7 :: a8 :: a9 :: some (.long x) :: none :: t) st P cs ss) : J Γ A K pc (a0 :: a1 :: a2 :: a3 :: a4 :: a5 :: a6 :: a7 :: a8 :: a9 :: b :: b2 :: t) (.long x :: st) P cs ss := j_lstore_g (i := 10) hK hd hi hb k
theorem j_iinc10 (hK : Jok Γ A K cc nL own hh) {a0 a1 a2 a3 a4 a5 a6 a7 a8 a9 : Option Value} {t : List (Option Value)} {n : Int} {x v : Int32} (hd : decode cc pc = .ok (.iinc 10 n, 3)) (hi : 10 < nL) (hb : okB (a0 :: a1 :: a2 :: a3 :: a4 :: a5 :: a6 :: a7 :: a8 :: a9 :: some (.int x) :: t) 10 = true) (hv : Int32.ofInt n = v) (k : J Γ A K (pc + 3) (a0 :: a1 :: a2 :: a3 :: a4 :: a5 :: a6 :: a7 :: a8 :: a9 :: some (.int (x + v)) :: t) st P cs ss) : J Γ A K pc (a0 :: a1 :: a2 :: a3 :: a4 :: a5 :: a6 :: a7 :: a8 :: a9 :: some (.int x) :: t) st P cs ss := j_iinc_g (i := 10) hK hd rfl hi hb hv k
theorem j_ist11 (hK : Jok Γ A K cc nL own hh) {a0 a1 a2 a3 a4 a5 a6 a7 a8 a9 a10 b : Option Value} {t : List (Option Value)} {x : Int32} (hd : decode cc pc = .ok (.istore 11, 2)) (hi : 11 < nL) (hb : okB (a0 :: a1 :: a2 :: a3 :: a4 :: a5 :: a6 :: a7 :: a8 :: a9 :: a10 :: b :: t) 11 = true) (k : J Γ A K (pc + 2) (a0 :: a1 :: a2 :: a3 :: a4 :: a5 :: a6 :: a7 :: a8 :: a9 :: a10 :: some (.int x) :: t) st P cs ss) : J Γ A K pc (a0 :: a1 :: a2 :: a3 :: a4 :: a5 :: a6 :: a7 :: a8 :: a9 :: a10 :: b :: t) (.int x :: st) P cs ss := j_istore_g (i := 11) hK hd hi hb k
theorem j_ast11 (hK : Jok Γ A K cc nL own hh) {a0 a1 a2 a3 a4 a5 a6 a7 a8 a9 a10 b : Option Value} {t : List (Option Value)} {x : Nat} (hd : decode cc pc = .ok (.astore 11, 2)) (hi : 11 < nL) (hb : okB (a0 :: a1 :: a2 :: a3 :: a4 :: a5 :: a6 :: a7 :: a8 :: a9 :: a10 :: b :: t) 11 = true) (k : J Γ A K (pc + 2) (a0 :: a1 :: a2 :: a3 :: a4 :: a5 :: a6 :: a7 :: a8 :: a9 :: a10 :: some (.ref x) :: t) st P cs ss) : J Γ A K pc (a0 :: a1 :: a2 :: a3 :: a4 :: a5 :: a6 :: a7 :: a8 :: a9 :: a10 :: b :: t) (.ref x :: st) P cs ss := j_astore_g (i := 11) hK hd hi hb k
theorem j_Nst11 (hK : Jok Γ A K cc nL own hh) {a0 a1 a2 a3 a4 a5 a6 a7 a8 a9 a10 b : Option Value} {t : List (Option Value)} (hd : decode cc pc = .ok (.astore 11, 2)) (hi : 11 < nL) (hb : okB (a0 :: a1 :: a2 :: a3 :: a4 :: a5 :: a6 :: a7 :: a8 :: a9 :: a10 :: b :: t) 11 = true) (k : J Γ A K (pc + 2) (a0 :: a1 :: a2 :: a3 :: a4 :: a5 :: a6 :: a7 :: a8 :: a9 :: a10 :: some (.null) :: t) st P cs ss) : J Γ A K pc (a0 :: a1 :: a2 :: a3 :: a4 :: a5 :: a6 :: a7 :: a8 :: a9 :: a10 :: b :: t) (.null :: st) P cs ss := j_Nstore_g (i := 11) hK hd hi hb k
theorem j_lst11 (hK : Jok Γ A K cc nL own hh) {a0 a1 a2 a3 a4 a5 a6 a7 a8 a9 a10 b : Option Value} {t : List (Option Value)} {b2 : Option Value} {x : Int64} (hd : decode cc pc = .ok (.lstore 11, 2)) (hi : 11 + 1 < nL) (hb : okB (a0 :: a1 :: a2 :: a3 :: a4 :: a5 :: a6 :: a7 :: a8 :: a9 :: a10 :: b :: b2 :: t) 11 = true) (k : J Γ A K (pc + 2) (a0 :: a1 :: a2 :: a3 :: a4 :: a5 :: a6 :: a7 :: a8 :: a9 :: a10 :: some (.long x) :: none :: t) st P cs ss) : J Γ A K pc (a0 :: a1 :: a2 :: a3 :: a4 :: a5 :: a6 :: a7 :: a8 :: a9 :: a10 :: b :: b2 :: t) (.long x :: st) P cs ss := j_lstore_g (i := 11) hK hd hi hb k
theorem j_iinc11 (hK : Jok Γ A K cc nL own hh) {a0 a1 a2 a3 a4 a5 a6 a7 a8 a9 a10 : Option Value} {t : List (Option Value)} {n : Int} {x v : Int32} (hd : decode cc pc = .ok (.iinc 11 n, 3)) (hi : 11 < nL) (hb : okB (a0 :: a1 :: a2 :: a3 :: a4 :: a5 :: a6 :: a7 :: a8 :: a9 :: a10 :: some (.int x) :: t) 11 = true) (hv : Int32.ofInt n = v) (k : J Γ A K (pc + 3) (a0 :: a1 :: a2 :: a3 :: a4 :: a5 :: a6 :: a7 :: a8 :: a9 :: a10 :: some (.int (x + v)) :: t) st P cs ss) : J Γ A K pc (a0 :: a1 :: a2 :: a3 :: a4 :: a5 :: a6 :: a7 :: a8 :: a9 :: a10 :: some (.int x) :: t) st P cs ss := j_iinc_g (i := 11) hK hd rfl hi hb hv k
theorem j_ist12 (hK : Jok Γ A K cc nL own hh) {a0 a1 a2 a3 a4 a5 a6 a7 a8 a9 a10 a11 b : Option Value} {t : List (Option Value)} {x : Int32} (hd : decode cc pc = .ok (.istore 12, 2)) (hi : 12 < nL) (hb : okB (a0 :: a1 :: a2 :: a3 :: a4 :: a5 :: a6 :: a7 :: a8 :: a9 :: a10 :: a11 :: b :: t) 12 = true) (k : J Γ A K (pc + 2) (a0 :: a1 :: a2 :: a3 :: a4 :: a5 :: a6 :: a7 :: a8 :: a9 :: a10 :: a11 :: some (.int x) :: t) st P cs ss) : J Γ A K pc (a0 :: a1 :: a2 :: a3 :: a4 :: a5 :: a6 :: a7 :: a8 :: a9 :: a10 :: a11 :: b :: t) (.int x :: st) P cs ss := j_istore_g (i := 12) hK hd hi hb k
theorem j_ast12 (hK : Jok Γ A K cc nL own hh) {a0 a1 a2 a3 a4 a5 a6 a7 a8 a9 a10 a11 b : Option Value} {t : List (Option Value)} {x : Nat} (hd : decode cc pc = .ok (.astore 12, 2)) (hi : 12 < nL) (hb : okB (a0 :: a1 :: a2 :: a3 :: a4 :: a5 :: a6 :: a7 :: a8 :: a9 :: a10 :: a11 :: b :: t) 12 = true) (k : J Γ A K (pc + 2) (a0 :: a1 :: a2 :: a3 :: a4 :: a5 :: a6 :: a7 :: a8 :: a9 :: a10 :: a11 :: some (.ref x) :: t) st P cs ss) : J Γ A K pc (a0 :: a1 :: a2 :: a3 :: a4 :: a5 :: a6 :: a7 :: a8 :: a9 :: a10 :: a11 :: b :: t) (.ref x :: st) P cs ss := j_astore_g (i := 12) hK hd hi hb k
theorem j_Nst12 (hK : Jok Γ A K cc nL own hh) {a0 a1 a2 a3 a4 a5 a6 a7 a8 a9 a10 a11 b : Option Value} {t : List (Option Value)} (hd : decode cc pc = .ok (.astore 12, 2)) (hi : 12 < nL) (hb : okB (a0 :: a1 :: a2 :: a3 :: a4 :: a5 :: a6 :: a7 :: a8 :: a9 :: a10 :: a11 :: b :: t) 12 = true) (k : J Γ A K (pc + 2) (a0 :: a1 :: a2 :: a3 :: a4 :: a5 :: a6 :: a7 :: a8 :: a9 :: a10 :: a11 :: some (.null) :: t) st P cs ss) : J Γ A K pc (a0 :: a1 :: a2 :: a3 :: a4 :: a5 :: a6 :: a7 :: a8 :: a9 :: a10 :: a11 :: b :: t) (.null :: st) P cs ss := j_Nstore_g (i := 12) hK hd hi hb k
theorem j_lst12 (hK : Jok Γ A K cc nL own hh) {a0 a1 a2 a3 a4 a5 a6 a7 a8 a9 a10 a11 b : Option Value} {t : List (Option Value)} {b2 : Option Value} {x : Int64} (hd : decode cc pc = .ok (.lstore 12, 2)) (hi : 12 + 1 < nL) (hb : okB (a0 :: a1 :: a2 :: a3 :: a4 :: a5 :: a6 :: a7 :: a8 :: a9 :: a10 :: a11 :: b :: b2 :: t) 12 = true) (k : J Γ A K (pc + 2) (a0 :: a1 :: a2 :: a3 :: a4 :: a5 :: a6 :: a7 :: a8 :: a9 :: a10 :: a11 :: some (.long x) :: none :: t) st P cs ss) : J Γ A K pc (a0 :: a1 :: a2 :: a3 :: a4 :: a5 :: a6 :: a7 :: a8 :: a9 :: a10 :: a11 :: b :: b2 :: t) (.long x :: st) P cs ss := j_lstore_g (i := 12) hK hd hi hb k
theorem j_iinc12 (hK : Jok Γ A K cc nL own hh) {a0 a1 a2 a3 a4 a5 a6 a7 a8 a9 a10 a11 : Option Value} {t : List (Option Value)} {n : Int} {x v : Int32} (hd : decode cc pc = .ok (.iinc 12 n, 3)) (hi : 12 < nL) (hb : okB (a0 :: a1 :: a2 :: a3 :: a4 :: a5 :: a6 :: a7 :: a8 :: a9 :: a10 :: a11 :: some (.int x) :: t) 12 = true) (hv : Int32.ofInt n = v) (k : J Γ A K (pc + 3) (a0 :: a1 :: a2 :: a3 :: a4 :: a5 :: a6 :: a7 :: a8 :: a9 :: a10 :: a11 :: some (.int (x + v)) :: t) st P cs ss) : J Γ A K pc (a0 :: a1 :: a2 :: a3 :: a4 :: a5 :: a6 :: a7 :: a8 :: a9 :: a10 :: a11 :: some (.int x) :: t) st P cs ss := j_iinc_g (i := 12) hK hd rfl hi hb hv k
theorem j_ist13 (hK : Jok Γ A K cc nL own hh) {a0 a1 a2 a3 a4 a5 a6 a7 a8 a9 a10 a11 a12 b : Option Value} {t : List (Option Value)} {x : Int32} (hd : decode cc pc = .ok (.istore 13, 2)) (hi : 13 < nL) (hb : okB (a0 :: a1 :: a2 :: a3 :: a4 :: a5 :: a6 :: a7 :: a8 :: a9 :: a10 :: a11 :: a12 :: b :: t) 13 = true) (k : J Γ A K (pc + 2) (a0 :: a1 :: a2 :: a3 :: a4 :: a5 :: a6 :: a7 :: a8 :: a9 :: a10 :: a11 :: a12 :: some (.int x) :: t) st P cs ss) : J Γ A K pc (a0 :: a1 :: a2 :: a3 :: a4 :: a5 :: a6 :: a7 :: a8 :: a9 :: a10 :: a11 :: a12 :: b :: t) (.int x :: st) P cs ss := j_istore_g (i := 13) hK hd hi hb k
theorem j_ast13 (hK : Jok Γ A K cc nL own hh) {a0 a1 a2 a3 a4 a5 a6 a7 a8 a9 a10 a11 a12 b : Option Value} {t : List (Option Value)} {x : Nat} (hd : decode cc pc = .ok (.astore 13, 2)) (hi : 13 < nL) (hb : okB (a0 :: a1 :: a2 :: a3 :: a4 :: a5 :: a6 :: a7 :: a8 :: a9 :: a10 :: a11 :: a12 :: b :: t) 13 = true) (k : J Γ A K (pc + 2) (a0 :: a1 :: a2 :: a3 :: a4 :: a5 :: a6 :: a7 :: a8 :: a9 :: a10 :: a11 :: a12 :: some (.ref x) :: t) st P cs ss) : J Γ A K pc (a0 :: a1 :: a2 :: a3 :: a4 :: a5 :: a6 :: a7 :: a8 :: a9 :: a10 :: a11 :: a12 :: b :: t) (.ref x :: st) P cs ss := j_astore_g (i := 13) hK hd hi hb k
theorem j_Nst13 (hK : Jok Γ A K cc nL own hh) {a0 a1 a2 a3 a4 a5 a6 a7 a8 a9 a10 a11 a12 b : Option Value} {t : List (Option Value)} (hd : decode cc pc = .ok (.astore 13, 2)) (hi : 13 < nL) (hb : okB (a0 :: a1 :: a2 :: a3 :: a4 :: a5 :: a6 :: a7 :: a8 :: a9 :: a10 :: a11 :: a12 :: b :: t) 13 = true) (k : J Γ A K (pc + 2) (a0 :: a1 :: a2 :: a3 :: a4 :: a5 :: a6 :: a7 :: a8 :: a9 :: a10 :: a11 :: a12 :: some (.null) :: t) st P cs ss) : J Γ A K pc (a0 :: a1 :: a2 :: a3 :: a4 :: a5 :: a6 :: a7 :: a8 :: a9 :: a10 :: a11 :: a12 :: b :: t) (.null :: st) P cs ss := j_Nstore_g (i := 13) hK hd hi hb k
theorem j_lst13 (hK : Jok Γ A K cc nL own hh) {a0 a1 a2 a3 a4 a5 a6 a7 a8 a9 a10 a11 a12 b : Option Value} {t : List (Option Value)} {b2 : Option Value} {x : Int64} (hd : decode cc pc = .ok (.lstore 13, 2)) (hi : 13 + 1 < nL) (hb : okB (a0 :: a1 :: a2 :: a3 :: a4 :: a5 :: a6 :: a7 :: a8 :: a9 :: a10 :: a11 :: a12 :: b :: b2 :: t) 13 = true) (k : J Γ A K (pc + 2) (a0 :: a1 :: a2 :: a3 :: a4 :: a5 :: a6 :: a7 :: a8 :: a9 :: a10 :: a11 :: a12 :: some (.long x) :: none :: t) st P cs ss) : J Γ A K pc (a0 :: a1 :: a2 :: a3 :: a4 :: a5 :: a6 :: a7 :: a8 :: a9 :: a10 :: a11 :: a12 :: b :: b2 :: t) (.long x :: st) P cs ss := j_lstore_g (i := 13) hK hd hi hb k
theorem j_iinc13 (hK : Jok Γ A K cc nL own hh) {a0 a1 a2 a3 a4 a5 a6 a7 a8 a9 a10 a11 a12 : Option Value} {t : List (Option Value)} {n : Int} {x v : Int32} (hd : decode cc pc = .ok (.iinc 13 n, 3)) (hi : 13 < nL) (hb : okB (a0 :: a1 :: a2 :: a3 :: a4 :: a5 :: a6 :: a7 :: a8 :: a9 :: a10 :: a11 :: a12 :: some (.int x) :: t) 13 = true) (hv : Int32.ofInt n = v) (k : J Γ A K (pc + 3) (a0 :: a1 :: a2 :: a3 :: a4 :: a5 :: a6 :: a7 :: a8 :: a9 :: a10 :: a11 :: a12 :: some (.int (x + v)) :: t) st P cs ss) : J Γ A K pc (a0 :: a1 :: a2 :: a3 :: a4 :: a5 :: a6 :: a7 :: a8 :: a9 :: a10 :: a11 :: a12 :: some (.int x) :: t) st P cs ss := j_iinc_g (i := 13) hK hd rfl hi hb hv k
end EJ
