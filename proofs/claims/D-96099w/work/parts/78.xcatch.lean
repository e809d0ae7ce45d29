/-! a throw is caught within the method; reading a text, in plain -/
set_option maxRecDepth 100000
section EG
variable {Γ : Gam} {A : Nat → Prop} {K : JC} {cc : ByteArray} {nL : Nat} {own : String} {hh : List (Nat × Nat × Nat × Nat)} {pc : Nat} {ls : List (Option Value)} {st : List Value} {P P' : PH → Prop} {cs ss d mc ms : Nat} {ret : Option FieldType} {Φ : Outcome → PH → Prop}
/-- one row of the table that covers the pc: its class is linked, then the object is asked -/
theorem row_cold {e : Env} {s : State} {f : JFrame} {a : Addr} {y : ExceptionTableEntry} {tl : List ExceptionTableEntry} {c : ClassId} {cell : Cell} (hx : covers y f.pc = true) (h0 : y.catchType ≠ 0) (hl : s.vm.ClassLinks e.platform f.method.cls y.catchType c) (hcell : s.heap[a]? = some cell) (hobj : cell.vm.isStatics = false) (hk : ∃ k, s.vm.classes[cell.cls]? = some k) (hc : ∃ k, s.vm.classes[c]? = some k) {vm' : Vm} (hvm : vm' = s.vm.noted f.method.cls y.catchType (.cls c)) (Q : Handler → Pre) (E : CtlPost) (d : Bool) (acts : List Action) : wp (findHandler.go f a (y :: tl)) Q E e d acts s ↔ if s.vm.assignable cell.cls c = true then Q (.found y.handlerPc) d acts (s.setVm vm') else wp (findHandler.go f a tl) Q E e d acts (s.setVm vm') := by
  subst hvm
  have hx' : (decide (y.startPc ≤ f.pc) && decide (f.pc < y.endPc)) = true := hx
  have hal : s.vm.Alike (s.vm.noted f.method.cls y.catchType (.cls c)) := (Vm.Alike.refl s.vm).noted _ _ _
  obtain ⟨u, hu⟩ := hk
  obtain ⟨v, hv⟩ := hc
  obtain ⟨u', hu', -⟩ := hal.2.2 _ _ hu
  obtain ⟨v', hv', -⟩ := hal.2.2 _ _ hv
  have hobj' := VmData.ne_statics_of hobj
  obtain ⟨w1, w2⟩ := (resolveClass_links e.toSetting hl).op (op := VmOp.resolveClass f.method.cls y.catchType) rfl
  rw [← hal.assignable]
  cases hf : (s.vm.noted f.method.cls y.catchType (.cls c)).assignable cell.cls c <;> simp [findHandler.go, hx', h0, w1, w2, hcell, hobj', hu', hv', hf, VmOp.dirties, VmOp.acts]
/-- how a row ahead of the catching one is passed -/
def Pass (Γ : Gam) (K : JC) (own : String) (cell : Cell) (pc : Nat) (z : ExceptionTableEntry) : Prop := covers z pc = false ∨ (z.catchType ≠ 0 ∧ ∃ nm c, Cond.classLink own z.catchType nm ∈ lw_all ∧ (ks K).vm.findClass nm = some c ∧ (ks K).vm.assignable cell.cls c = false)
theorem find_rows (hK : Jok Γ A K cc nL own hh) {pl : Platform} (hpl : pl.magicAccessors = ({} : Platform).magicAccessors) {e : Env} (hep : e.platform = pl) {f : JFrame} (hf : f.method = km K) {a : Addr} {cell : Cell} (hobj : cell.vm.isStatics = false) (hk0 : ∃ k, (ks K).vm.classes[cell.cls]? = some k) {y : ExceptionTableEntry} {rest : List ExceptionTableEntry} (hx : covers y f.pc = true) (h0 : y.catchType ≠ 0) {nm : String} (hlink : Cond.classLink own y.catchType nm ∈ lw_all) {cT : ClassId} (hcT : (ks K).vm.findClass nm = some cT) (hfit : (ks K).vm.assignable cell.cls cT = true) : ∀ (pre : List ExceptionTableEntry) (S : State), (ks K).WarmedH S.vm → S.heap[a]? = some cell → (∀ z ∈ pre, Pass Γ K own cell f.pc z) → ∃ vm', (ks K).WarmedH vm' ∧ ∀ (Q : Handler → Pre) (E : CtlPost) (d : Bool) (acts : List Action), wp (findHandler.go f a (pre ++ y :: rest)) Q E e d acts S ↔ Q (.found y.handlerPc) d acts (S.setVm vm') := by
  subst hep
  obtain ⟨k0, hk0⟩ := hk0
  have lnk : ∀ (i : Nat) (nm : String) (c : ClassId), Cond.classLink own i nm ∈ lw_all → (ks K).vm.findClass nm = some c → (ks K).vm.ClassLinks e.platform f.method.cls i c := fun i nm c h1 h2 => by
    obtain ⟨c', hc', hcl⟩ := Cond.classLink_spec hK.own (hK.ts _ h1) e.platform hpl
    cases h2.symm.trans hc'
    rw [hf]
    exact hcl
  intro pre
  induction pre with
  | nil =>
    intro S hW hcell _
    have hl := lnk _ _ _ hlink hcT
    obtain ⟨dk, _, _, kt, hd, _, _, _, _, hkt, _, hop⟩ := hl.here
    obtain ⟨k0', hk0', -⟩ := hW.alike.2.2 _ _ hk0
    obtain ⟨kt', hkt', -⟩ := hW.alike.2.2 _ _ hkt
    refine ⟨_, hW.noted hd hop (State.rightAt_cls hl), fun Q E d acts => ?_⟩
    rw [List.nil_append, row_cold hx h0 (hW.classLinks hl) hcell hobj ⟨_, hk0'⟩ ⟨_, hkt'⟩ rfl, if_pos (by rw [hW.alike.assignable]; exact hfit)]
  | cons z zs ih =>
    intro S hW hcell hp
    have hzs : ∀ w ∈ zs, Pass Γ K own cell f.pc w := fun w hw => hp w (List.mem_cons_of_mem _ hw)
    cases hcv : covers z f.pc with
    | false =>
      obtain ⟨vm', hW', hq⟩ := ih S hW hcell hzs
      exact ⟨vm', hW', fun Q E d acts => by rw [List.cons_append, W.findHandler_go_skip hcv]; exact hq Q E d acts⟩
    | true =>
      rcases hp z List.mem_cons_self with q | ⟨z0, nz, cz, q1, q2, q3⟩
      · rw [q] at hcv; cases hcv
      · have hl := lnk _ _ _ q1 q2
        obtain ⟨dk, _, _, kt, hd, _, _, _, _, hkt, _, hop⟩ := hl.here
        obtain ⟨k0', hk0', -⟩ := hW.alike.2.2 _ _ hk0
        obtain ⟨kt', hkt', -⟩ := hW.alike.2.2 _ _ hkt
        obtain ⟨vm', hW', hq⟩ := ih (S.setVm (S.vm.noted f.method.cls z.catchType (.cls cz))) (hW.noted hd hop (State.rightAt_cls hl)) hcell hzs
        refine ⟨vm', hW', fun Q E d acts => ?_⟩
        rw [List.cons_append, row_cold hcv z0 (hW.classLinks hl) hcell hobj ⟨_, hk0'⟩ ⟨_, hkt'⟩ rfl, if_neg (by rw [hW.alike.assignable, q3]; decide)]
        exact hq Q E d acts
theorem jt_catchG {x : Nat} {nm : String} (hK : Jok Γ A K cc nL own hh) (pre : List ExceptionTableEntry) (y : ExceptionTableEntry) (rest : List ExceptionTableEntry) (hsplit : tableOf hh = pre ++ y :: rest) (hx : covers y pc = true) (h0 : y.catchType ≠ 0) (hlink : Cond.classLink own y.catchType nm ∈ lw_all) (hr : ∀ (h : PH) (H : Heap) (locs : List Loc), P h → Rp Γ A h (ks K).heap H locs → ∃ (cell : Cell) (cT : ClassId), H[x]? = some cell ∧ cell.vm.isStatics = false ∧ (ks K).vm.findClass nm = some cT ∧ (ks K).vm.assignable cell.cls cT = true ∧ (∃ k, (ks K).vm.classes[cell.cls]? = some k) ∧ ∀ z ∈ pre, Pass Γ K own cell pc z) (kk : J Γ A K y.handlerPc ls [.ref x] P cs ss) : JT Γ A K pc ls st x P cs ss := fun h H locs arr hP hR hL T hT X => by
  subst hT
  obtain ⟨cell, cT, q1, q2, q3, q4, q5, q6⟩ := hr h T.heap locs hP hR
  have hpl : (ke K).platform.magicAccessors = ({} : Platform).magicAccessors := by rw [X.admits.platform]
  have hhere : At T (F0 (km K) pc arr st).method (kc K) (kb K) := X.here
  obtain ⟨vm', hW', hq⟩ := find_rows hK hpl rfl (f := F0 (km K) pc arr st) rfl q2 q5 (y := y) (rest := rest) hx h0 hlink q3 q4 pre ((T.setTop (F0 (km K) pc arr st)).pushFrame (.throwing x)) X.warmed q1 q6
  obtain ⟨t, a1, b1⟩ := kk h T.heap locs arr hP hR hL (T.setVm vm') rfl (X.noted hW')
  refine ⟨t, ?_, b1⟩
  have hfind : ∀ (Q : Handler → Pre) (E : CtlPost) (d : Bool) (acts : List Action), wp (findHandler (F0 (km K) pc arr st) x) Q E (ke K) d acts ((T.setTop (F0 (km K) pc arr st)).pushFrame (.throwing x)) ↔ Q (.found y.handlerPc) d acts (((T.setTop (F0 (km K) pc arr st)).pushFrame (.throwing x)).setVm vm') := fun Q E d acts => by
    rw [W.findHandler_eq (meth := kt K) (code := kc K) X.method' X.code, hK.ex, hsplit]
    exact hq Q E d acts
  obtain ⟨hgo, hw⟩ := hhere.throwing x
  refine Steps.head hgo hw ?_
  have hstep : ∀ r : List Frame, (stepThrowing (ke K) ((T.setTop (F0 (km K) pc arr st)).pushFrame (.throwing x)) x (.java (F0 (km K) pc arr st) :: r)).1 = (((T.setTop (F0 (km K) pc arr st)).pushFrame (.throwing x)).setVm vm').setFrames (.java (F0 (km K) y.handlerPc arr [.ref x]) :: r) := fun r => by
    simp only [stepThrowing, searchFrame, vmDo]
    generalize hr : Sem.go _ (ke K) false [] ((T.setTop (F0 (km K) pc arr st)).pushFrame (.throwing x)) = res
    obtain ⟨as, rfl, ha⟩ := Sem.eq_ok_of hr (a := Handler.found y.handlerPc) (s' := ((T.setTop (F0 (km K) pc arr st)).pushFrame (.throwing x)).setVm vm') (acts' := []) (by simp [hfind _ _ _ _])
    rfl
  rw [stepThread_throwing (frames_entered hhere.top _), hstep]
  obtain ⟨g0, hg⟩ := Option.isSome_iff_exists.mp hhere.top
  obtain ⟨r, hrr⟩ := State.topJava?_eq_some.mp hg
  have hrv : (T.setVm vm').frames = .java g0 :: r := hrr
  rw [State.setTop_of_frames _ hrv] at a1
  rw [hrr, List.tail_cons, State.pushFrame, State.setTop_of_frames _ hrr]
  have e1 : ∀ (u : State) (F G : List Frame), ((u.setFrames F).setVm vm').setFrames G = (u.setVm vm').setFrames G := fun u F G => by
    have : (u.setFrames F).setVm vm' = (u.setVm vm').setFrames F := rfl
    rw [this, State.setFrames_setFrames]
  rw [e1, e1]
  exact a1
theorem jt_catch {x : Nat} {nm : String} (hK : Jok Γ A K cc nL own hh) (y : ExceptionTableEntry) (rest : List ExceptionTableEntry) (hsplit : tableOf hh = y :: rest) (hx : covers y pc = true) (h0 : y.catchType ≠ 0) (hlink : Cond.classLink own y.catchType nm ∈ lw_all) (hr : CellC Γ A K P x nm) (kk : J Γ A K y.handlerPc ls [.ref x] P cs ss) : JT Γ A K pc ls st x P cs ss :=
  jt_catchG hK [] y rest hsplit hx h0 hlink (fun h H locs hP hR => by
    obtain ⟨cell, q1, q2, q3⟩ := hr h H locs hP hR
    obtain ⟨k, hk, -⟩ := Vm.findClass_spec q3
    exact ⟨cell, cell.cls, q1, q2, q3, va_asg _ _, ⟨k, hk⟩, fun z hz => by cases hz⟩) kk
end EG
section P78
variable (t : Nat → Int32) (n : Nat)
/-- what is left of a text from its part i on, at p, the codes C before it -/
def stT : Nat → Nat → Nat → (Nat → List Int32) → Nat × Option (List Int32 × List Int32 × List Int32)
  | 0, _, p, C => if soP t n p = 0 then (p, some (C 0, C 1, C 2)) else (p, none)
  | r + 1, i, p, C => match ptP t n (wKeys.getD i []) p with
    | (u, none) => (u, none)
    | (u, some c) => stT r (i + 1) u (fun j => if j = i then c else C j)
theorem stT_ok : txP t n = stT t n 3 0 0 (fun _ => []) := by
  unfold txP stT
  show _ = match ptP t n wPrice 0 with
    | (u, none) => (u, none)
    | (u, some c) => stT t n 2 1 u (fun j => if j = 0 then c else [])
  match h1 : ptP t n wPrice 0 with
  | (q, none) => rfl
  | (q, some a) =>
    simp only
    unfold stT
    show _ = match ptP t n wHears q with
      | (u, none) => (u, none)
      | (u, some c) => stT t n 1 2 u (fun j => if j = 1 then c else if j = 0 then a else [])
    match h2 : ptP t n wHears q with
    | (q2, none) => rfl
    | (q2, some b) =>
      simp only
      unfold stT
      show _ = match ptP t n wComes q2 with
        | (u, none) => (u, none)
        | (u, some c) => stT t n 0 3 u (fun j => if j = 2 then c else if j = 1 then b else if j = 0 then a else [])
      match h3 : ptP t n wComes q2 with
      | (q3, none) => rfl
      | (q3, some c) => rfl
end P78
section P78b
variable {t : Nat → Int32} {n : Nat}
theorem stT_bad {r i p : Nat} {C : Nat → List Int32} (hr : i + r = 3) (h : ¬ gd t n p) : stT t n r i p C = (p, none) := by
  cases r with
  | zero => exact if_neg (bad_0 h)
  | succ r =>
    unfold stT
    rw [← pt_no (bad_w (k := i) (by omega) h)]
theorem stT_no {r i p u : Nat} {C : Nat → List Int32} (e : (u, none) = ptP t n (wKeys.getD i []) p) : stT t n (r + 1) i p C = (u, none) := by
  unfold stT
  rw [← e]
theorem stT_go {r i p u : Nat} {c : List Int32} {C : Nat → List Int32} (e : (u, some c) = ptP t n (wKeys.getD i []) p) : stT t n (r + 1) i p C = stT t n r (i + 1) u (fun j => if j = i then c else C j) := by
  conv => lhs; unfold stT
  rw [← e]
/-- a tree is not deeper than its code is long -/
theorem NT.tight {h : PH} : ∀ (m o a : Nat) (c : List Int32), NT m h o a c → NT c.length h o a c := by
  intro m
  induction m with
  | zero => intro o a c w; exact w.elim
  | succ m ih =>
    intro o a c w
    rcases w with ⟨v, h0, rfl, h2⟩ | ⟨v, h0, h3, rfl, h2⟩ | ⟨b, c1, s, rfl, h2, h3, h4⟩ | ⟨b1, b2, c1, c2, sg, op, rfl, h2, h3, h4, h5⟩
    · exact Or.inl ⟨v, h0, rfl, h2⟩
    · exact Or.inr (Or.inl ⟨v, h0, h3, rfl, h2⟩)
    · rw [List.length_append]
      exact Or.inr (Or.inr (Or.inl ⟨b, c1, s, rfl, h2, h3, ih _ _ _ h4⟩))
    · rw [List.length_append, List.length_append]
      exact Or.inr (Or.inr (Or.inr ⟨b1, b2, c1, c2, sg, op, rfl, h2, h3, NT.up _ _ _ _ _ _ (by show _ ≤ c1.length + c2.length; omega) (ih _ _ _ h4), NT.up _ _ _ _ _ _ (by show _ ≤ c1.length + c2.length; omega) (ih _ _ _ h5)⟩))
theorem NTe.to {h : PH} {o a : Nat} {c : List Int32} (w : NTe h o a c) (hc : c.length ≤ 160) : NT 160 h o a c := NT.up _ _ _ _ _ _ hc (NT.tight _ _ _ _ w.choose_spec)
end P78b
