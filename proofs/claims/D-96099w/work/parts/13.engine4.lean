/-! THE ENGINE, 4: the kinds of calls; ends by kind; throws leave or are caught -/
set_option maxRecDepth 100000
theorem nle {a b : Nat} (h : Nat.ble a b = true) : a ≤ b := Nat.le_of_ble_eq_true h
/-- what the tables say of a callee's code -/
def CodeOf (y : MethodName) (L : Nat) : Prop := ∀ (args : Array Value) (s : State), (∀ w ∈ lw_all, w.before args s = true) → ∃ mk meth c, s.methodNamed? y = some mk ∧ s.vm.method? mk = some meth ∧ meth.code = some c ∧ c.maxLocals = L ∧ parseMethodDescriptor y.desc = some meth.sig
theorem CodeOf.of {y : MethodName} {b : ByteArray} {L : Nat} {r : Option FieldType} (h : Cond.code y b L r ∈ lw_all) : CodeOf y L := fun args s hts => by
  obtain ⟨mk, hn⟩ := Cond.code_named (hts _ h)
  obtain ⟨meth, c, h1, h2, -, h4, -, -, -, h8⟩ := Cond.code_spec hn (hts _ h)
  exact ⟨mk, meth, c, hn, h1, h2, h4, h8⟩
theorem CodeOf.ofW {y : MethodName} {b : ByteArray} {L : Nat} {r : Option FieldType} {hh : List (Nat × Nat × Nat × Nat)} (h : Cond.codeWith y b L r hh ∈ lw_all) : CodeOf y L := fun args s hts => by
  obtain ⟨mk, meth, c, hn, h1, h2, -, h4, -, -, -, h8⟩ := Cond.codeWith_spec (hts _ h)
  exact ⟨mk, meth, c, hn, h1, h2, h4, h8⟩
abbrev NoMH (c : String) : Prop := c ≠ "java/lang/invoke/MethodHandle" ∧ c ≠ "java/lang/invoke/VarHandle"
/-- a static callee -/
def CalS (y : MethodName) (ws : List Cond) (L n : Nat) : Prop := GoodIn lw_all ws ∧ Cond.static y ∈ lw_all ∧ Cond.initialized y.cls ∈ lw_all ∧ CodeOf y L ∧ NoMH y.cls ∧ (parseMethodDescriptor y.desc).map (fun d => d.parameters.length) = some n ∧ L ≤ 41
/-- a callee that the class C selects for x -/
def CalV (C : String) (x y : MethodName) (ws : List Cond) (L n : Nat) : Prop := GoodIn lw_all ws ∧ Cond.instanceMethod y ∈ lw_all ∧ Cond.selects C x y ∈ lw_all ∧ Cond.initialized y.cls ∈ lw_all ∧ CodeOf y L ∧ NoMH y.cls ∧ (parseMethodDescriptor x.desc).map (fun d => d.parameters.length) = some n ∧ L ≤ 41
/-- a callee by super -/
def CalP (y : MethodName) (ws : List Cond) (L n : Nat) : Prop := GoodIn lw_all ws ∧ Cond.instanceMethod y ∈ lw_all ∧ Cond.initialized y.cls ∈ lw_all ∧ CodeOf y L ∧ NoMH y.cls ∧ (parseMethodDescriptor y.desc).map (fun d => d.parameters.length) = some n ∧ L ≤ 41
/-- a constructor -/
def CalI (y : MethodName) (ws : List Cond) (b : ByteArray) (L n : Nat) : Prop := GoodIn lw_all ws ∧ Cond.instanceMethod y ∈ lw_all ∧ Cond.initialized y.cls ∈ lw_all ∧ Cond.code y b L none ∈ lw_all ∧ NoMH y.cls ∧ (parseMethodDescriptor y.desc).map (fun d => d.parameters.length) = some n ∧ L ≤ 41 ∧ y.name = "<init>"
def RI (φ : Int32 → PH → Prop) : Outcome → PH → Prop := fun o h => ∃ r, o = .returned (some (.int r)) ∧ φ r h
def RL (φ : Int64 → PH → Prop) : Outcome → PH → Prop := fun o h => ∃ r, o = .returned (some (.long r)) ∧ φ r h
def RV (φ : PH → Prop) : Outcome → PH → Prop := fun o h => o = .returned none ∧ φ h
def RR (φ : Value → PH → Prop) : Outcome → PH → Prop := fun o h => ∃ r, o = .returned (some r) ∧ φ r h
def RT (Ψ : Outcome → PH → Prop) (τ : Nat → PH → Prop) : Outcome → PH → Prop := fun o h => Ψ o h ∨ ∃ x, o = .threw x ∧ τ x h
section EK
variable {Γ : Gam} {A : Nat → Prop} {K : JC} {cc : ByteArray} {nL : Nat} {own : String} {hh : List (Nat × Nat × Nat × Nat)} {pc : Nat} {ls : List (Option Value)} {st : List Value} {P P' : PH → Prop} {cs ss d mc ms : Nat} {ret : Option FieldType} {Φ : Outcome → PH → Prop}
theorem kr_i {φ : Int32 → PH → Prop} (k : ∀ r, J Γ A K pc ls (.int r :: st) (φ r) cs ss) : ∀ v : Option Value, J Γ A K pc ls (v.toList ++ st) (RI φ (.returned v)) cs ss := fun v h H locs arr hP hR hL => by
  obtain ⟨r, e, hφ⟩ := hP
  cases e
  exact k r h H locs arr hφ hR hL
theorem kr_l {φ : Int64 → PH → Prop} (k : ∀ r, J Γ A K pc ls (.long r :: st) (φ r) cs ss) : ∀ v : Option Value, J Γ A K pc ls (v.toList ++ st) (RL φ (.returned v)) cs ss := fun v h H locs arr hP hR hL => by
  obtain ⟨r, e, hφ⟩ := hP
  cases e
  exact k r h H locs arr hφ hR hL
theorem kr_r {φ : Value → PH → Prop} (k : ∀ r, J Γ A K pc ls (r :: st) (φ r) cs ss) : ∀ v : Option Value, J Γ A K pc ls (v.toList ++ st) (RR φ (.returned v)) cs ss := fun v h H locs arr hP hR hL => by
  obtain ⟨r, e, hφ⟩ := hP
  cases e
  exact k r h H locs arr hφ hR hL
theorem kr_v {φ : PH → Prop} (k : J Γ A K pc ls st φ cs ss) : ∀ v : Option Value, J Γ A K pc ls (v.toList ++ st) (RV φ (.returned v)) cs ss := fun v h H locs arr hP hR hL => by
  obtain ⟨e, hφ⟩ := hP
  cases e
  exact k h H locs arr hφ hR hL
theorem kr_t {Ψ : Outcome → PH → Prop} {τ : Nat → PH → Prop} (k : ∀ v : Option Value, J Γ A K pc ls (v.toList ++ st) (Ψ (.returned v)) cs ss) : ∀ v : Option Value, J Γ A K pc ls (v.toList ++ st) (RT Ψ τ (.returned v)) cs ss := fun v h H locs arr hP hR hL => by
  rcases hP with hP | ⟨x, e, -⟩
  · exact k v h H locs arr hP hR hL
  · cases e
theorem kx_i {φ : Int32 → PH → Prop} : ∀ x, JT Γ A K pc ls st x (RI φ (.threw x)) cs ss := fun x h H locs arr hP => by
  obtain ⟨r, e, hφ⟩ := hP
  cases e
theorem kx_l {φ : Int64 → PH → Prop} : ∀ x, JT Γ A K pc ls st x (RL φ (.threw x)) cs ss := fun x h H locs arr hP => by
  obtain ⟨r, e, hφ⟩ := hP
  cases e
theorem kx_r {φ : Value → PH → Prop} : ∀ x, JT Γ A K pc ls st x (RR φ (.threw x)) cs ss := fun x h H locs arr hP => by
  obtain ⟨r, e, hφ⟩ := hP
  cases e
theorem kx_v {φ : PH → Prop} : ∀ x, JT Γ A K pc ls st x (RV φ (.threw x)) cs ss := fun x h H locs arr hP => by
  obtain ⟨e, hφ⟩ := hP
  cases e
theorem kx_t {Ψ : Outcome → PH → Prop} {τ : Nat → PH → Prop} (h0 : ∀ x h, ¬ Ψ (.threw x) h) (k : ∀ x, JT Γ A K pc ls st x (τ x) cs ss) : ∀ x, JT Γ A K pc ls st x (RT Ψ τ (.threw x)) cs ss := fun x h H locs arr hP => by
  rcases hP with hP | ⟨x', e, hτ⟩
  · exact absurd hP (h0 x h)
  · cases e
    exact k x h H locs arr hτ
theorem nt_i {φ : Int32 → PH → Prop} : ∀ x h, ¬ RI φ (.threw x) h := fun x h ⟨r, e, _⟩ => by cases e
theorem nt_r {φ : Value → PH → Prop} : ∀ x h, ¬ RR φ (.threw x) h := fun x h ⟨r, e, _⟩ => by cases e
theorem nt_v {φ : PH → Prop} : ∀ x h, ¬ RV φ (.threw x) h := fun x h ⟨e, _⟩ => by cases e
theorem len_of {y : MethodName} {n : Nat} {sig : MethodDescriptor} (h : (parseMethodDescriptor y.desc).map (fun d => d.parameters.length) = some n) (hs : parseMethodDescriptor y.desc = some sig) {m : Nat} (hm : m = n) : m = sig.parameters.length := by
  rw [hs] at h
  rw [hm]
  exact (Option.some.inj h).symm
/-! static -/
theorem j_callS {y : MethodName} {ws : List Cond} {d' mc' ms' L' n idx : Nat} {as stk : List Value} {Ψ : Outcome → PH → Prop} (hK : Jok Γ A K cc nL own hh) (hQ : Kq Γ A K d mc ms ret Φ) (hC : Ct Γ A y ws d' mc' ms' as P Ψ) (cal : CalS y ws L' n) (hlink : Cond.methodLink own idx y ∈ lw_all) (hd : decode cc pc = .ok (.invokestatic idx, 3)) (hst : stk = as.reverse ++ st)
    (hlen : as.length = n) (hdd : d' < d) (hcs : cs + mc' ≤ mc) (hss : ss + ms' ≤ ms) (hsum : (st.map fun v => v.category).sum ≤ 8)
    (kr : ∀ v, J Γ A K (pc + 3) ls (v.toList ++ st) (Ψ (.returned v)) (cs + mc') (ss + ms')) (kx : ∀ x, JT Γ A K pc ls st x (Ψ (.threw x)) (cs + mc') (ss + ms')) : J Γ A K pc ls stk P cs ss := by
  obtain ⟨hws, hstat, hini, hcd, hy, hpar, hL⟩ := cal
  refine j_site hK hQ hC hws hini hdd hL hcs hss hd hsum (fun h H locs arr hP hR harr T hT X => ?_) kr kx
  obtain ⟨mk, meth, c, hn, hm, hc, hLc, hsig⟩ := hcd _ _ hK.ts
  have hstatic := Cond.static_spec hn hm (hK.ts _ hstat)
  obtain ⟨kP, hkP, -⟩ := className_of_methodNamed hn
  have hinitP : kP.init = .initialized := Cond.initialized_spec (findClass_of_methodNamed hn) hkP (hK.ts _ hini)
  obtain ⟨vm₁, X₁, hstep⟩ := X.invokestatic hK.x hK.own (hK.ts _ hlink) hn hm hstatic hkP hinitP hy (g := F0 (km K) pc arr stk) rfl (argsL := as) (rest := st) (len_of hpar hsig hlen) hst (by rw [hK.b]; exact hd)
  exact ⟨mk, hn, ⟨meth, c, hm, hc, hLc⟩, vm₁, X₁, hstep⟩
/-- the object at a is of the class C -/
def IsC (P : PH → Prop) (a : Nat) (C : String) : Prop := ∀ h, P h → ∃ (ci : Nat) (fs : List Value) (q : vw_C), h a = some (.inr (ci, fs)) ∧ vwCl[ci]? = some q ∧ q.1 = C
theorem IsC.cell {a : Nat} {C : String} (hK : Jok Γ A K cc nL own hh) (hr : IsC P a C) {h : PH} {H : Heap} {locs : List Loc} (hP : P h) (hR : Rp Γ A h (ks K).heap H locs) : ∃ cell : Cell, H[a]? = some cell ∧ cell.vm.isStatics = false ∧ (ks K).vm.findClass C = some cell.cls := by
  obtain ⟨ci, fs, q, h1, h2, h3⟩ := hr h hP
  subst h3
  exact va_recv hK.k (va_one (hR.1 _ _ h1).1) (q0 := 0) h2 rfl
/-! through an object, the method's own class -/
theorem j_callV {y : MethodName} {ws : List Cond} {d' mc' ms' L' n idx a : Nat} {C : String} {as stk : List Value} {Ψ : Outcome → PH → Prop} (hK : Jok Γ A K cc nL own hh) (hQ : Kq Γ A K d mc ms ret Φ) (hC : Ct Γ A y ws d' mc' ms' (.ref a :: as) P Ψ) (cal : CalV C y y ws L' n) (hrec : IsC P a C) (hlink : Cond.methodLink own idx y ∈ lw_all) (hd : decode cc pc = .ok (.invokevirtual idx, 3)) (hst : stk = as.reverse ++ .ref a :: st)
    (hlen : as.length = n) (hdd : d' < d) (hcs : cs + mc' ≤ mc) (hss : ss + ms' ≤ ms) (hsum : (st.map fun v => v.category).sum ≤ 8)
    (kr : ∀ v, J Γ A K (pc + 3) ls (v.toList ++ st) (Ψ (.returned v)) (cs + mc') (ss + ms')) (kx : ∀ x, JT Γ A K pc ls st x (Ψ (.threw x)) (cs + mc') (ss + ms')) : J Γ A K pc ls stk P cs ss := by
  obtain ⟨hws, hinst, hsel, hini, hcd, hy, hpar, hL⟩ := cal
  refine j_site hK hQ hC hws hini hdd hL hcs hss hd hsum (fun h H locs arr hP hR harr T hT X => ?_) kr kx
  obtain ⟨mk, methM, hnamed, hmethM, hstM, habM⟩ := Cond.instanceMethod_spec (hK.ts _ hinst)
  obtain ⟨mk', meth', c, hn, hm, hc, hLc, hsig⟩ := hcd _ _ hK.ts
  cases hnamed.symm.trans hn
  cases hmethM.symm.trans hm
  obtain ⟨cellB, hcell, hobj, hcls⟩ := hrec.cell hK hP hR
  obtain ⟨c2, r2, m2, q1, q2, q3, q4, kP, hkP, hkPi⟩ := Cond.selects_spec (hK.ts _ hsel)
  cases hcls.symm.trans q1
  cases (State.methodFound?_of_named hnamed hy).symm.trans q2
  cases hnamed.symm.trans q3
  have hselP : selectMethod (ke K).platform (ks K).vm cellB.cls mk = .method mk := by rw [Launch.admits_selectMethod X.admits]; exact q4
  obtain ⟨vm₁, X₁, hstep⟩ := X.invokevirtual hK.x hK.own (hK.ts _ hlink) hnamed hmethM hstM hkP hkPi hy (a := a) (cell := cellB) (by rw [hT]; exact hcell)
    (fun z h => by rw [h] at hobj; cases hobj) hselP hmethM habM hkP hkPi (g := F0 (km K) pc arr stk) rfl (argsL := as) (rest := st) (len_of hpar hsig hlen) hst (by rw [hK.b]; exact hd)
  exact ⟨mk, hn, ⟨methM, c, hm, hc, hLc⟩, vm₁, X₁, hstep⟩
/-! through an object, a method that the object's class overrides or inherits: the reference names x, found in the class 'owner' -/
theorem j_callU {x y : MethodName} {ws : List Cond} {d' mc' ms' L' n idx a : Nat} {C owner : String} {as stk : List Value} {Ψ : Outcome → PH → Prop} (hK : Jok Γ A K cc nL own hh) (hQ : Kq Γ A K d mc ms ret Φ) (hC : Ct Γ A y ws d' mc' ms' (.ref a :: as) P Ψ) (cal : CalV C x y ws L' n) (hrec : IsC P a C) (hlink : Cond.methodLink own idx x ∈ lw_all) (hsame : Cond.sameMethod x.cls owner x.name x.desc ∈ lw_all) (hown : NoMH owner) (hdecl : ∀ s : State, (gs Γ).WarmedH s.vm → (∀ (args : Array Value), (∀ w ∈ lw_all, w.before args s = true) → va_Decl s ⟨owner, x.name, x.desc⟩)) (hd : decode cc pc = .ok (.invokevirtual idx, 3)) (hst : stk = as.reverse ++ .ref a :: st)
    (hlen : as.length = n) (hdd : d' < d) (hcs : cs + mc' ≤ mc) (hss : ss + ms' ≤ ms) (hsum : (st.map fun v => v.category).sum ≤ 8)
    (kr : ∀ v, J Γ A K (pc + 3) ls (v.toList ++ st) (Ψ (.returned v)) (cs + mc') (ss + ms')) (kx : ∀ x, JT Γ A K pc ls st x (Ψ (.threw x)) (cs + mc') (ss + ms')) : J Γ A K pc ls stk P cs ss := by
  obtain ⟨hws, hinst, hsel, hini, hcd, hy, hpar, hL⟩ := cal
  refine j_site hK hQ hC hws hini hdd hL hcs hss hd hsum (fun h H locs arr hP hR harr T hT X => ?_) kr kx
  obtain ⟨r0, r, hn0, hrm, hstR, hsigR⟩ := hdecl _ hK.warm _ hK.ts
  obtain ⟨cn, ck, r1, hcn, hck, hni, hf, hn1⟩ := Cond.sameMethod_found (hK.ts _ hsame)
  cases hn0.symm.trans hn1
  obtain ⟨mk, methM, hnamed, hmethM, hstM, habM⟩ := Cond.instanceMethod_spec (hK.ts _ hinst)
  obtain ⟨mk', meth', c, hn, hm, hc, hLc, hsig⟩ := hcd _ _ hK.ts
  cases hnamed.symm.trans hn
  cases hmethM.symm.trans hm
  obtain ⟨cellB, hcell, hobj, hcls⟩ := hrec.cell hK hP hR
  obtain ⟨c2, r2, m2, q1, q2, q3, q4, kP, hkP, hkPi⟩ := Cond.selects_spec (hK.ts _ hsel)
  cases hcls.symm.trans q1
  cases hf.symm.trans q2
  cases hnamed.symm.trans q3
  have hselP : selectMethod (ke K).platform (ks K).vm cellB.cls r0 = .method mk := by rw [Launch.admits_selectMethod X.admits]; exact q4
  obtain ⟨vm₁, X₁, hstep⟩ := X.invokevirtualUp hK.x hK.own (hK.ts _ hlink) (hK.ts _ hsame) hown hn0 hrm hstR (a := a) (cell := cellB) (by rw [hT]; exact hcell)
    (fun z h => by rw [h] at hobj; cases hobj) hselP hmethM habM hkP hkPi (g := F0 (km K) pc arr stk) rfl (argsL := as) (rest := st) (len_of (y := x) hpar hsigR hlen) hst (by rw [hK.b]; exact hd)
  exact ⟨mk, hn, ⟨methM, c, hm, hc, hLc⟩, vm₁, X₁, hstep⟩
/-! constructors -/
theorem j_callI {y : MethodName} {ws : List Cond} {b : ByteArray} {d' mc' ms' L' n idx a : Nat} {as stk : List Value} {Ψ : Outcome → PH → Prop} (hK : Jok Γ A K cc nL own hh) (hQ : Kq Γ A K d mc ms ret Φ) (hC : Ct Γ A y ws d' mc' ms' (.ref a :: as) P Ψ) (cal : CalI y ws b L' n) (hlink : Cond.methodLink own idx y ∈ lw_all) (hd : decode cc pc = .ok (.invokespecial idx, 3)) (hst : stk = as.reverse ++ .ref a :: st)
    (hlen : as.length = n) (hdd : d' < d) (hcs : cs + mc' ≤ mc) (hss : ss + ms' ≤ ms) (hsum : (st.map fun v => v.category).sum ≤ 8)
    (kr : ∀ v, J Γ A K (pc + 3) ls (v.toList ++ st) (Ψ (.returned v)) (cs + mc') (ss + ms')) (kx : ∀ x, JT Γ A K pc ls st x (Ψ (.threw x)) (cs + mc') (ss + ms')) : J Γ A K pc ls stk P cs ss := by
  obtain ⟨hws, hinst, hini, hcode, hy, hpar, hL, hy1⟩ := cal
  refine j_site hK hQ hC hws hini hdd hL hcs hss hd hsum (fun h H locs arr hP hR harr T hT X => ?_) kr kx
  have hpl : (ke K).platform.magicAccessors = ({} : Platform).magicAccessors := by rw [X.admits.platform]
  obtain ⟨mk, methM, cM, kP, vm₁, hnamed, hmethM, hcodeM, -, hlocalsM, -, hkP, -, hW₁, hstep₁⟩ := Steps.initColdArgs (e := ke K) X.here hK.x X.warmed hpl hK.own hy1 hy (hK.ts _ hlink) (hK.ts _ hinst) (hK.ts _ hcode) (f := F0 (km K) pc arr stk) rfl (fun sig hs => len_of hpar hs hlen) hst (by rw [hK.b]; exact hd)
  exact ⟨mk, hnamed, ⟨methM, cM, hmethM, hcodeM, hlocalsM⟩, vm₁, X.noted hW₁, hstep₁⟩
/-! a super call -/
theorem j_callP {y : MethodName} {ws : List Cond} {d' mc' ms' L' n idx a : Nat} {C : String} {as stk : List Value} {Ψ : Outcome → PH → Prop} (hK : Jok Γ A K cc nL own hh) (hQ : Kq Γ A K d mc ms ret Φ) (hC : Ct Γ A y ws d' mc' ms' (.ref a :: as) P Ψ) (cal : CalP y ws L' n) (hrec : IsC P a C) (hlink : Cond.methodLink own idx y ∈ lw_all) (hsame : Cond.sameMethod y.cls y.cls y.name y.desc ∈ lw_all) (hsup : Cond.superclass own y.cls ∈ lw_all) (hno : y.name ≠ "<init>") (hd : decode cc pc = .ok (.invokespecial idx, 3)) (hst : stk = as.reverse ++ .ref a :: st)
    (hlen : as.length = n) (hdd : d' < d) (hcs : cs + mc' ≤ mc) (hss : ss + ms' ≤ ms) (hsum : (st.map fun v => v.category).sum ≤ 8)
    (kr : ∀ v, J Γ A K (pc + 3) ls (v.toList ++ st) (Ψ (.returned v)) (cs + mc') (ss + ms')) (kx : ∀ x, JT Γ A K pc ls st x (Ψ (.threw x)) (cs + mc') (ss + ms')) : J Γ A K pc ls stk P cs ss := by
  obtain ⟨hws, hinst, hini, hcd, hy, hpar, hL⟩ := cal
  refine j_site hK hQ hC hws hini hdd hL hcs hss hd hsum (fun h H locs arr hP hR harr T hT X => ?_) kr kx
  obtain ⟨mk, methM, hnamed, hmethM, hstM, habM⟩ := Cond.instanceMethod_spec (hK.ts _ hinst)
  obtain ⟨mk', meth', c, hn, hm, hc, hLc, hsig⟩ := hcd _ _ hK.ts
  cases hnamed.symm.trans hn
  cases hmethM.symm.trans hm
  obtain ⟨ps, dk, kp, hps, hdk, hkp, hsuper, -, -, hnid⟩ := Cond.superclass_spec hK.own (hK.ts _ hsup)
  have hn' : (ks K).methodNamed? ⟨y.cls, y.name, y.desc⟩ = some mk := hnamed
  have hpm : ps = mk.cls := Option.some.inj (hps.symm.trans (findClass_of_methodNamed hnamed))
  have hsub : (ks K).vm.isSubclass ps mk.cls = true := by rw [hpm]; simp [Vm.isSubclass, Vm.isSubclassAux]
  obtain ⟨cellB, hcell, hobj, hcls⟩ := hrec.cell hK hP hR
  obtain ⟨ci, fs, q, h1, h2, h3⟩ := hrec h hP
  obtain ⟨hS, hfc, kB, hkB, -⟩ := hK.k.1 ci _ h2
  rw [h3] at hfc
  have e9 := Option.some.inj (hfc.symm.trans hcls)
  have hkB : (ks K).vm.classes[cellB.cls]? = some kB := by rw [← e9]; exact hkB
  obtain ⟨vm₁, X₁, hstep⟩ := X.invokespecialUp hK.x hK.own (hK.ts _ hlink) (hK.ts _ hsame) hn' hmethM hstM habM hno hdk hnid hps hsuper hsub (a := a) (cell := cellB) (by rw [hT]; exact hcell)
    (fun z h => by rw [h] at hobj; cases hobj) hkB (g := F0 (km K) pc arr stk) rfl (argsL := as) (rest := st) (len_of hpar hsig hlen) hst (by rw [hK.b]; exact hd)
  exact ⟨mk, hn, ⟨methM, c, hm, hc, hLc⟩, vm₁, X₁, fun t ht => hstep t (ht [])⟩
end EK
