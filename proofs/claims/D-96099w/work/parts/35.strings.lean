/-! string constants: they lie in the launch's heap, below all that a run writes -/
set_option maxRecDepth 100000
theorem GOK.n {Γ : Gam} (h : GOK Γ) {w : Cond} (hm : w ∈ flatC (Jvm.Cond.and given_1 narrow_1)) : w.before #[Value.ref (gb Γ)] (gs Γ) = true := flat_of_before _ h.2.1 _ hm
/-- a field of an object of the launch -/
def LF (s : State) (c : Cell) (cls name desc : String) (v : Value) : Prop := ∃ (cf : Nat) (k : Class) (i : Nat) (f : Field), s.fieldFound? cls name desc = some (cf, k, i, f) ∧ f.isStatic = false ∧ c.slots[f.slot]? = some v
theorem LF.moved {s t : State} {c : Cell} {cls name desc : String} {v : Value} (h : LF s c cls name desc v) (hv : s.vm.Alike t.vm) : LF t c cls name desc v := by
  obtain ⟨cf, k, i, f, h1, h2, h3⟩ := h
  obtain ⟨k', hk', -⟩ := State.fieldFound?_setVm hv h1
  exact ⟨cf, k', i, f, hk', h2, h3⟩
/-- the string at a: its bytes lie at v -/
def sLs (Γ : Gam) (a v : Nat) (bs : List Int32) : Prop := ∃ ca cv : Cell, (gs Γ).heap[a]? = some ca ∧ (gs Γ).heap[v]? = some cv ∧ ca.vm.isStatics = false ∧ ca.vm ≠ .unknown ∧ (gs Γ).vm.findClass "java/lang/String" = some ca.cls ∧ LF (gs Γ) ca "java/lang/String" "value" "[B" (.ref v) ∧ LF (gs Γ) ca "java/lang/String" "coder" "B" (.int 0) ∧ (gs Γ).isArrayOf cv .byte ∧ cv.vm ≠ .unknown ∧ cv.slots.size = bs.length ∧ (∀ i, i < bs.length → cv.slots[i]? = some (.int (bs.getD i 0))) ∧ bs.length < 2 ^ 31
/-- a static of the launch -/
def LT (Γ : Gam) (cls name desc : String) (v : Value) : Prop := ∃ (cf : Nat) (k : Class) (i : Nat) (f : Field) (a : Nat) (c : Cell), (gs Γ).fieldFound? cls name desc = some (cf, k, i, f) ∧ f.isStatic = true ∧ k.init = .initialized ∧ k.statics = some a ∧ (gs Γ).heap[a]? = some c ∧ c.vm ≠ .unknown ∧ c.slots[f.slot]? = some v
theorem fieldOf_LF {s : State} {a : Nat} {cls name desc : String} {v : Value} (h : s.fieldOf? a cls name desc = some v) : ∃ c, s.heap[a]? = some c ∧ c.vm ≠ .unknown ∧ LF s c cls name desc v := by
  simp only [State.fieldOf?, State.fieldNamed?, Option.bind_eq_bind, Option.bind_eq_some_iff] at h
  obtain ⟨c, hc, ⟨c2, k2, sl⟩, ⟨⟨c3, k3, i3, f3⟩, h1, h2⟩, h3⟩ := h
  by_cases hs : (f3.isStatic == false) = true
  · rw [if_pos hs] at h2
    cases h2
    split at h3
    · cases h3
    · rename_i hn
      exact ⟨c, hc, fun z => hn (Or.inl z), c3, k3, i3, f3, h1, by simpa using hs, h3⟩
  · rw [if_neg hs] at h2
    cases h2
theorem ev_field {args : Array Value} {s : State} {t : Term} {a : Nat} {c n d : String} (h : t.eval args s none [] s = some (.ref a)) : (Term.field t c n d).eval args s none [] s = s.fieldOf? a c n d := by
  rw [Term.eval, h]
  rfl
theorem ev_len {args : Array Value} {s : State} {t : Term} {v : Value} {n : Int32} (ht : t.eval args s none [] s = some v) (h : (Term.length t).eval args s none [] s = some (.int n)) : ∃ a cell, v = .ref a ∧ s.arrayAt? a = some cell ∧ cell.slots.size < 2 ^ 31 ∧ n = cell.slots.size.toInt32 := by
  rw [Term.eval, ht] at h
  cases v with
  | ref a =>
    simp only [Option.bind_eq_bind, Option.bind_some] at h
    cases har : s.arrayAt? a with
    | none => rw [har] at h; cases h
    | some cell =>
      rw [har] at h
      simp only [Option.bind_some] at h
      by_cases hl : cell.slots.size < 2 ^ 31
      · rw [if_pos hl] at h
        exact ⟨a, cell, rfl, har, hl, (Value.int.inj (Option.some.inj h)).symm⟩
      · rw [if_neg hl] at h; cases h
  | _ => cases h
theorem ev_elem {args : Array Value} {s : State} {t : Term} {a : Nat} {cell : Cell} {j : Int32} (ht : t.eval args s none [] s = some (.ref a)) (hc : s.arrayAt? a = some cell) (hj : ¬ j < 0) : (Term.elem t (.int j)).eval args s none [] s = cell.slots[j.toNatClampNeg]? := by
  rw [Term.eval, ht]
  simp only [Option.bind_eq_bind, Option.bind_some, Term.eval]
  rw [if_neg hj, hc]
  rfl
/-- what the premises say of a string constant -/
def sAt (cls : String) (idx : Nat) (bs : List Int32) : List Cond := [.exactly (.string cls idx) "java/lang/String", .eq (.field (.string cls idx) "java/lang/String" "coder" "B") (.int 0), .arrayOf (.field (.string cls idx) "java/lang/String" "value" "[B") .byte, .eq (.length (.field (.string cls idx) "java/lang/String" "value" "[B")) (.int (Int32.ofNat bs.length))] ++ (List.range bs.length).map (fun i => .eq (.elem (.field (.string cls idx) "java/lang/String" "value" "[B") (.int (Int32.ofNat i))) (.int (bs.getD i 0)))
def LStr (Γ : Gam) (cls : String) (idx : Nat) (bs : List Int32) : Prop := ∃ a v, (Term.string cls idx).eval #[Value.ref (gb Γ)] (gs Γ) none [] (gs Γ) = some (.ref a) ∧ sLs Γ a v bs
theorem LStr.of {Γ : Gam} (hΓ : GOK Γ) {cls : String} {idx : Nat} {bs : List Int32} (hm : ∀ w ∈ sAt cls idx bs, w.before #[Value.ref (gb Γ)] (gs Γ) = true) (hl : bs.length < 2 ^ 31) : LStr Γ cls idx bs := by
  have h1 := (hm (.exactly (.string cls idx) "java/lang/String") (by simp [sAt]))
  have h2 := (hm (.eq (.field (.string cls idx) "java/lang/String" "coder" "B") (.int 0)) (by simp [sAt]))
  have h3 := (hm (.arrayOf (.field (.string cls idx) "java/lang/String" "value" "[B") .byte) (by simp [sAt]))
  have h4 := (hm (.eq (.length (.field (.string cls idx) "java/lang/String" "value" "[B")) (.int (Int32.ofNat bs.length))) (by simp [sAt]))
  have h5 : ∀ i, i < bs.length → (Cond.eq (.elem (.field (.string cls idx) "java/lang/String" "value" "[B") (.int (Int32.ofNat i))) (.int (bs.getD i 0))).before #[Value.ref (gb Γ)] (gs Γ) = true := fun i hi => (hm _ (by
    unfold sAt
    exact List.mem_append_right _ (List.mem_map.mpr ⟨i, List.mem_range.mpr hi, rfl⟩)))
  obtain ⟨a, c, ca, k, e1, e2, e3, -, e5, e6, -⟩ := Cond.exactly_spec h1
  subst e6
  obtain ⟨y, e7, e8⟩ := Cond.eq_one h2
  cases e8
  rw [ev_field e1] at e7
  obtain ⟨c', hc', hn, hcod⟩ := fieldOf_LF e7
  cases e3.symm.trans hc'
  obtain ⟨y4, e9, e10⟩ := Cond.eq_one h4
  cases e10
  cases hv : (gs Γ).fieldOf? a "java/lang/String" "value" "[B" with
  | none =>
    rw [Term.eval, ev_field e1, hv] at e9
    cases e9
  | some vv =>
    obtain ⟨v, cv, rfl, har, hlt, e11⟩ := ev_len (by rw [ev_field e1]; exact hv) e9
    obtain ⟨q1, q2, -, -⟩ := State.arrayAt?_spec har
    obtain ⟨c'', hc'', -, hval⟩ := fieldOf_LF hv
    cases e3.symm.trans hc''
    have hev : (Term.field (.string cls idx) "java/lang/String" "value" "[B").eval #[Value.ref (gb Γ)] (gs Γ) none [] (gs Γ) = some (.ref v) := by rw [ev_field e1]; exact hv
    obtain ⟨harr, hkn⟩ := Cond.arrayOf_spec h3 hev q1
    have hsz : cv.slots.size = bs.length := by
      have := congrArg Int32.toInt e11
      rw [show cv.slots.size.toInt32 = Int32.ofNat cv.slots.size from rfl, Int32.toInt_ofNat_of_lt (by omega), Int32.toInt_ofNat_of_lt (by omega)] at this
      omega
    refine ⟨a, v, e1, ca, cv, e3, q1, e5, hn, e2, hval, hcod, harr, hkn, hsz, fun i hi => ?_, hl⟩
    obtain ⟨y5, f1, f2⟩ := Cond.eq_one (h5 i hi)
    cases f2
    rw [ev_elem (j := Int32.ofNat i) hev har (nI_pos (n := i) (by omega))] at f1
    have : (Int32.ofNat i).toNatClampNeg = i := nI_clamp (by omega)
    rw [this] at f1
    exact f1
theorem LT.of {Γ : Gam} (hΓ : GOK Γ) {cls name desc : String} {v : Value} (hl : Cond.laysStatic cls name desc ∈ lw_tbl) (hi : Cond.initialized cls ∈ lw_tbl) (hv : (Term.static cls name desc).eval #[Value.ref (gb Γ)] (gs Γ) none [] (gs Γ) = some v) : LT Γ cls name desc v := by
  obtain ⟨c, k, i, f, a, cell, h1, h2, h3, h4, h5, h6, h7, h8, h9⟩ := Cond.laysStatic_spec (hΓ.1 _ hl)
  obtain ⟨hk, -⟩ := State.fieldFound?_spec h2
  have hin : k.init = .initialized := Cond.initialized_spec h1 hk (hΓ.1 _ hi)
  have hn : (gs Γ).fieldNamed? cls name desc true = some (c, k, f.slot) := by
    simp [State.fieldNamed?, h2, h3]
  have hv' := hv
  rw [Term.eval, hn] at hv'
  simp only [Option.bind_eq_bind, Option.bind_some, h4, h5, h6, if_true] at hv'
  exact ⟨c, k, i, f, a, cell, h2, h3, hin, h4, h5, (fun z => by rw [z] at h6; cases h6), hv'⟩
section ST
variable {Γ : Gam} {A : Nat → Prop} {K : JC} {cc : ByteArray} {nL : Nat} {own : String} {hh : List (Nat × Nat × Nat × Nat)} {pc : Nat} {ls : List (Option Value)} {st : List Value} {P P' : PH → Prop} {cs ss d mc ms : Nat} {ret : Option FieldType} {Φ : Outcome → PH → Prop} {a v : Nat} {bs : List Int32}
theorem Jok.low {h : PH} {H : Heap} {locs : List Loc} (hK : Jok Γ A K cc nL own hh) (hR : Rp Γ A h (ks K).heap H locs) {q : Nat} {c : Cell} (hc : (gs Γ).heap[q]? = some c) : H[q]? = some c := by
  have hq : q < (gs Γ).heap.size := (Array.getElem?_eq_some_iff.mp hc).1
  rw [hR.2.2.1 q (fun z => absurd (hK.a.2.1 q z) (by omega)), hK.a.2.2.1 q hq]
  exact hc
theorem j_sval {idx : Nat} (hK : Jok Γ A K cc nL own hh) (hS : sLs Γ a v bs) (hlink : Cond.fieldLink own idx "java/lang/String" "value" "[B" ∈ lw_all) (hd : decode cc pc = .ok (.getfield idx, 3)) (kk : J Γ A K (pc + 3) ls (.ref v :: st) P cs ss) : J Γ A K pc ls (.ref a :: st) P cs ss := fun h H locs arr hP hR hL => by
  obtain ⟨ca, cv, h1, h2, h3, h4, h5, h6, -⟩ := hS
  obtain ⟨cf, k, i, f, e1, e2, e3⟩ := h6.moved hK.warm.alike
  exact W.getf hK.x hK.b hK.own (hK.ts _ hlink) e1 e2 (hK.low hR h1) h4 e3 rfl rfl hd (kk h H locs arr hP hR hL)
theorem j_scod {idx : Nat} (hK : Jok Γ A K cc nL own hh) (hS : sLs Γ a v bs) (hlink : Cond.fieldLink own idx "java/lang/String" "coder" "B" ∈ lw_all) (hd : decode cc pc = .ok (.getfield idx, 3)) (kk : J Γ A K (pc + 3) ls (.int 0 :: st) P cs ss) : J Γ A K pc ls (.ref a :: st) P cs ss := fun h H locs arr hP hR hL => by
  obtain ⟨ca, cv, h1, h2, h3, h4, h5, -, h6, -⟩ := hS
  obtain ⟨cf, k, i, f, e1, e2, e3⟩ := h6.moved hK.warm.alike
  exact W.getf hK.x hK.b hK.own (hK.ts _ hlink) e1 e2 (hK.low hR h1) h4 e3 rfl rfl hd (kk h H locs arr hP hR hL)
theorem j_slen (hK : Jok Γ A K cc nL own hh) (hS : sLs Γ a v bs) (hd : decode cc pc = .ok (.arraylength, 1)) (kk : J Γ A K (pc + 1) ls (.int (nI bs.length) :: st) P cs ss) : J Γ A K pc ls (.ref v :: st) P cs ss := fun h H locs arr hP hR hL => by
  obtain ⟨ca, cv, h1, h2, -, -, -, -, -, h8, h9, h10, -⟩ := hS
  exact W.alen hK.x hK.b (hK.low hR h2) (State.isArrayOf_alike hK.warm.alike h8) (by rw [h10]; rfl) rfl rfl hd (kk h H locs arr hP hR hL)
theorem j_sbal {i : Nat} (hK : Jok Γ A K cc nL own hh) (hS : sLs Γ a v bs) (hi : i < bs.length) (hd : decode cc pc = .ok (.baload, 1)) (kk : J Γ A K (pc + 1) ls (.int (bs.getD i 0) :: st) P cs ss) : J Γ A K pc ls (.int (nI i) :: .ref v :: st) P cs ss := fun h H locs arr hP hR hL => by
  obtain ⟨ca, cv, h1, h2, -, -, -, -, -, h8, h9, h10, h11, h12⟩ := hS
  have e : (nI i).toNatClampNeg = i := nI_clamp (by omega)
  exact W.bald hK.x hK.b (hK.low hR h2) (State.isArrayOf_alike hK.warm.alike h8) h9 (by rw [e, h10]; exact fun z => z.elim (nI_pos (by omega)) (by omega)) (by rw [e]; exact h11 i hi) rfl rfl hd (kk h H locs arr hP hR hL)
theorem j_gst {cls name desc : String} {idx : Nat} {w : Value} (hK : Jok Γ A K cc nL own hh) (hT : LT Γ cls name desc w) (hlink : Cond.fieldLink own idx cls name desc ∈ lw_all) (hd : decode cc pc = .ok (.getstatic idx, 3)) (kk : J Γ A K (pc + 3) ls (w :: st) P cs ss) : J Γ A K pc ls st P cs ss := fun h H locs arr hP hR hL => by
  obtain ⟨cf, k, i, f, q, c, e1, e2, e3, e4, e5, e6, e7⟩ := hT
  obtain ⟨k', hk', he⟩ := State.fieldFound?_setVm hK.warm.alike e1
  exact W.gets hK.x hK.b hK.own (hK.ts _ hlink) hk' e2 (by rw [he]; exact e3) (by rw [he]; exact e4) (hK.low hR e5) e6 e7 rfl hd (kk h H locs arr hP hR hL)
theorem j_callL {y : MethodName} {ws : List Cond} {d' mc' ms' L' n idx : Nat} {as stk : List Value} {Ψ : Outcome → PH → Prop} (hK : Jok Γ A K cc nL own hh) (hQ : Kq Γ A K d mc ms ret Φ) (hC : Ct Γ A y ws d' mc' ms' (.ref a :: as) P Ψ) (cal : CalV "java/lang/String" y y ws L' n) (hS : sLs Γ a v bs) (hlink : Cond.methodLink own idx y ∈ lw_all) (hd : decode cc pc = .ok (.invokevirtual idx, 3)) (hst : stk = as.reverse ++ .ref a :: st)
    (hlen : as.length = n) (hdd : d' < d) (hcs : cs + mc' ≤ mc) (hss : ss + ms' ≤ ms) (hsum : (st.map fun v => v.category).sum ≤ 8)
    (kr : ∀ v, J Γ A K (pc + 3) ls (v.toList ++ st) (Ψ (.returned v)) (cs + mc') (ss + ms')) (kx : ∀ x, JT Γ A K pc ls st x (Ψ (.threw x)) (cs + mc') (ss + ms')) : J Γ A K pc ls stk P cs ss := by
  obtain ⟨hws, hinst, hsel, hini, hcd, hy, hpar, hL⟩ := cal
  refine j_site hK hQ hC hws hini hdd hL hcs hss hd hsum (fun h H locs arr hP hR harr T hT X => ?_) kr kx
  obtain ⟨mk, methM, hnamed, hmethM, hstM, habM⟩ := Cond.instanceMethod_spec (hK.ts _ hinst)
  obtain ⟨mk', meth', c, hn, hm, hc, hLc, hsig⟩ := hcd _ _ hK.ts
  cases hnamed.symm.trans hn
  cases hmethM.symm.trans hm
  obtain ⟨ca, cv, h1, -, hobj, -, h5, -⟩ := hS
  have hcell := hK.low hR h1
  have hcls : (ks K).vm.findClass "java/lang/String" = some ca.cls := by rw [hK.warm.alike.findClass]; exact h5
  obtain ⟨c2, r2, m2, q1, q2, q3, q4, kP, hkP, hkPi⟩ := Cond.selects_spec (hK.ts _ hsel)
  cases hcls.symm.trans q1
  cases (State.methodFound?_of_named hnamed hy).symm.trans q2
  cases hnamed.symm.trans q3
  have hselP : selectMethod (ke K).platform (ks K).vm ca.cls mk = .method mk := by rw [Launch.admits_selectMethod X.admits]; exact q4
  obtain ⟨vm₁, X₁, hstep⟩ := X.invokevirtual hK.x hK.own (hK.ts _ hlink) hnamed hmethM hstM hkP hkPi hy (a := a) (cell := ca) (by rw [hT]; exact hcell)
    (fun z h => by rw [h] at hobj; cases hobj) hselP hmethM habM hkP hkPi (g := F0 (km K) pc arr stk) rfl (argsL := as) (rest := st) (len_of hpar hsig hlen) hst (by rw [hK.b]; exact hd)
  exact ⟨mk, hn, ⟨methM, c, hm, hc, hLc⟩, vm₁, X₁, hstep⟩
theorem j_ldcs {text : String} {idx : Nat} (hK : Jok Γ A K cc nL own hh) (hw : Cond.stringRef own idx text ∈ lw_tbl) (hev : (Term.string own idx).eval #[Value.ref (gb Γ)] (gs Γ) none [] (gs Γ) = some (.ref a)) (hd : decode cc pc = .ok (.ldc idx, 2)) (kk : J Γ A K (pc + 2) ls (.ref a :: st) P cs ss) : J Γ A K pc ls st P cs ss := fun h H locs arr hP hR hL T hT X => by
  have hown : (gs Γ).vm.findClass own = some (km K).cls := by rw [← hK.warm.alike.findClass]; exact hK.own
  obtain ⟨k, cf, i, a', hk, hcf, hcp, -, hr, hev'⟩ := Cond.stringRef_spec hown (hK.g.1 _ hw)
  cases hev.symm.trans hev'
  have hWT : (gs Γ).WarmedH T.vm := State.WarmedH.trans hK.warm X.warmed
  obtain ⟨k', hk', he⟩ := hWT.alike.2.2 _ _ hk
  have hr' : k'.resolved[idx]? = some (some (.string a)) := by
    rcases hWT.entry hk hk' idx with h | ⟨h, -⟩
    · rw [h]; exact hr
    · rw [hr] at h; cases h
  obtain ⟨t, a1, b1⟩ := kk h H locs arr hP hR hL T hT X
  refine ⟨t, ?_, b1⟩
  have hx := hK.x
  have hb : decode (kc K).code pc = .ok (.ldc idx, 2) := by rw [hK.b]; exact hd
  jvm_step X.here [hx, hb, ldc.wp_string (e := ke K) (s := T) (f := F0 (km K) pc arr st) X.here.top hk' (by rw [he]; exact hcf) hcp hr']
  exact a1
end ST
