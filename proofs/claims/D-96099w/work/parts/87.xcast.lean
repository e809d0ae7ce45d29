/-! a cast that fails -/
set_option maxRecDepth 100000
section CN
variable {p : Program} {l : Launch} {e : Env} {R : Room} {s : State} {m : MethodId} {args : Array Value} {below : List Frame} {meth : Method} {c : Code} {T : State} {locs : List Loc} {cells slots : Nat}
theorem cast_no (X : Stand p l e R s m args below meth c T locs cells slots) (hexec : p.tables.exec = Jvm.exec) {own name : String} {index : Nat} (hown : s.vm.findClass own = some m.cls) (hlink : (Cond.classLink own index name).before args s = true) {a : Addr} {cell : Cell} {cT : ClassId} {ks : Class} (hcell : T.heap[a]? = some cell) (hobj : cell.vm.isStatics = false) (hks : s.vm.classes[cell.cls]? = some ks) (hcT : s.vm.findClass name = some cT) (hasg : s.vm.assignable cell.cls cT = false) {g : JFrame} (hg : g.method = m) {rest : List Value} (hstack : g.stack = .ref a :: rest) (hdg : decode c.code g.pc = .ok (.checkcast index, 3)) : ∃ vm' ka kb, Stand p l e R s m args below meth c (T.setVm vm') locs cells slots ∧ vm'.classes[cell.cls]? = some ka ∧ vm'.classes[cT]? = some kb ∧ ∀ target, Steps p.tables e below (((T.setVm vm').setTop g).pushFrame (.throwNew "java/lang/ClassCastException" (some (checkcast.message vm' ka kb)) none)) target → Steps p.tables e below (T.setTop g) target := by
  have hpl : e.platform.magicAccessors = ({} : Platform).magicAccessors := by rw [X.admits.platform]
  obtain ⟨c', hc', hcl⟩ := Cond.classLink_spec hown hlink e.platform hpl
  cases hcT.symm.trans hc'
  obtain ⟨dk, _, _, kt, hd, _, _, _, _, hkt, _, hop⟩ := hcl.here
  have hcl0 := X.warmed.classLinks hcl
  have hW : s.WarmedH (T.vm.noted m.cls index (.cls cT)) := X.warmed.noted hd hop (State.rightAt_cls hcl)
  obtain ⟨ka, hka, -⟩ := hW.alike.2.2 _ _ hks
  obtain ⟨kb, hkb, -⟩ := hW.alike.2.2 _ _ hkt
  refine ⟨_, ka, kb, X.noted hW, hka, hkb, fun target hrest => ?_⟩
  subst hg
  jvm_step X.here [hexec, hdg, checkcast.wp_cold (e := e) (s := T) (f := g) X.here.top hstack (resolveClass_links e.toSetting hcl0) hcl0.ready, checkcast.wp_ready (e := e) (s := T.setVm (T.vm.noted g.method.cls index (.cls cT))) (f := g) X.here.top hcl0.ready hstack]
  refine ⟨cell, hcell, VmData.noStatics_of hobj, ka, hka, kb, hkb, ?_⟩
  rw [if_neg (by rw [hW.alike.assignable, hasg]; decide)]
  exact hrest
end CN
/-- where a class of the boot loader lives -/
def homeW (b : Bool) : String := if b then "module java.base of loader 'bootstrap'" else "unnamed module of loader 'bootstrap'"
def tx1 (A B : String) (x : Bool) : String := "class " ++ dotted A ++ " cannot be cast to class " ++ dotted B ++ " (" ++ (dotted A ++ " and " ++ dotted B ++ " are in " ++ homeW x) ++ ")"
def tx2 (A B : String) (x y : Bool) : String := "class " ++ dotted A ++ " cannot be cast to class " ++ dotted B ++ " (" ++ (dotted A ++ " is in " ++ homeW x ++ "; " ++ dotted B ++ " is in " ++ homeW y) ++ ")"
theorem tx_ok {t r : String} (h : t = "class " ++ r) (hl : t.length ≤ 400) : (t == notModelled) = false ∧ (stringBytes (stringToUtf16 t)).size ≤ 1600 := by
  refine ⟨?_, ?_⟩
  · rw [beq_eq_false_iff_ne]
    intro e
    have h1 := congrArg String.toList (h.symm.trans e)
    rw [String.toList_append] at h1
    have h4 : notModelled.toList = '\u0000' :: " a message that is not modelled".toList := by decide
    have h5 : "class ".toList = 'c' :: "lass ".toList := by decide
    rw [h4, h5] at h1
    simp at h1
  · have b1 := stringBytes_size_le (stringToUtf16 t)
    have b2 := utf16_size_le t
    have b3 : t.toList.length = t.length := by first | rfl | exact String.length_toList | exact String.length_toList t
    omega
theorem hw_len (x : Bool) : (homeW x).length ≤ 40 := by cases x <;> decide
theorem tx1_ok {A B : String} (hA : (dotted A).length ≤ 40) (hB : (dotted B).length ≤ 40) (x : Bool) : (tx1 A B x == notModelled) = false ∧ (stringBytes (stringToUtf16 (tx1 A B x))).size ≤ 1600 := by
  have hx := hw_len x
  refine tx_ok (r := dotted A ++ " cannot be cast to class " ++ dotted B ++ " (" ++ (dotted A ++ " and " ++ dotted B ++ " are in " ++ homeW x) ++ ")") ?_ ?_
  · simp [tx1, String.append_assoc]
  · simp only [tx1, String.length_append]
    have e1 : "class ".length = 6 := by decide
    have e2 : " cannot be cast to class ".length = 25 := by decide
    have e3 : " (".length = 2 := by decide
    have e4 : " and ".length = 5 := by decide
    have e5 : " are in ".length = 8 := by decide
    have e6 : ")".length = 1 := by decide
    have e0 : "".length = 0 := by decide
    omega
theorem tx2_ok {A B : String} (hA : (dotted A).length ≤ 40) (hB : (dotted B).length ≤ 40) (x y : Bool) : (tx2 A B x y == notModelled) = false ∧ (stringBytes (stringToUtf16 (tx2 A B x y))).size ≤ 1600 := by
  have hx := hw_len x
  have hy := hw_len y
  refine tx_ok (r := dotted A ++ " cannot be cast to class " ++ dotted B ++ " (" ++ (dotted A ++ " is in " ++ homeW x ++ "; " ++ dotted B ++ " is in " ++ homeW y) ++ ")") ?_ ?_
  · simp [tx2, String.append_assoc]
  · simp only [tx2, String.length_append]
    have e1 : "class ".length = 6 := by decide
    have e2 : " cannot be cast to class ".length = 25 := by decide
    have e3 : " (".length = 2 := by decide
    have e4 : " is in ".length = 7 := by decide
    have e5 : "; ".length = 2 := by decide
    have e6 : ")".length = 1 := by decide
    have e0 : "".length = 0 := by decide
    omega
theorem dot_len : ∀ a ∈ ["BoatsCalledIn$Boat", "BoatsCalledIn$Skiff", "BoatsCalledIn$Punt", "BoatsCalledIn$Leaky", "BoatsCalledIn$Deaf", "BoatsCalledIn$Lovers", "[B", "[S", "[I"], (dotted a).length ≤ 40 := by decide +kernel
theorem mess_cases {vm : Vm} {A B : String} {ka kb : Class} (ha : ka.name = A ∧ ka.hidden = none ∧ ka.loader = none) (hb : kb.name = B ∧ kb.hidden = none ∧ kb.loader = none) (hA : vm.home ka = homeW true ∨ vm.home ka = homeW false) (hB : vm.home kb = homeW true ∨ vm.home kb = homeW false) : ∃ x y, checkcast.message vm ka kb = tx1 A B x ∨ checkcast.message vm ka kb = tx2 A B x y := by
  obtain ⟨a1, a2, a3⟩ := ha
  obtain ⟨b1, b2, b3⟩ := hb
  have sa : ka.shown = dotted A := by unfold Class.shown; rw [a2, a1]
  have sb : kb.shown = dotted B := by unfold Class.shown; rw [b2, b1]
  unfold checkcast.message Vm.homes
  rw [sa, sb]
  rcases hA with h1 | h1 <;> rcases hB with h2 | h2 <;> rw [h1, h2] <;> split
  · exact ⟨true, true, Or.inl rfl⟩
  · exact ⟨true, true, Or.inr rfl⟩
  · exact ⟨true, true, Or.inl rfl⟩
  · exact ⟨true, false, Or.inr rfl⟩
  · exact ⟨false, true, Or.inl rfl⟩
  · exact ⟨false, true, Or.inr rfl⟩
  · exact ⟨false, true, Or.inl rfl⟩
  · exact ⟨false, false, Or.inr rfl⟩
theorem home_of {vm : Vm} {k : Class} {P : List String} (hl : k.loader = none) (hm : (vm.modules.all fun m => m.loader.isSome || m.name == "java.base" || !(P.any fun p => m.packages.contains p)) = true) (hp : k.ofPrimitives = true ∨ packageOf k.name ∈ P) : vm.home k = homeW true ∨ vm.home k = homeW false := by
  unfold Vm.home
  rw [hl]
  cases hmo : vm.moduleOf k with
  | none => exact Or.inr rfl
  | some m =>
    refine Or.inl ?_
    have hname : m.name = "java.base" := by
      unfold Vm.moduleOf at hmo
      by_cases hpr : k.ofPrimitives = true
      · rw [if_pos hpr] at hmo
        have := List.find?_some hmo
        simpa using this
      · rw [if_neg hpr] at hmo
        have h1 := List.find?_some hmo
        have h2 := List.mem_of_find?_eq_some hmo
        have h3 := List.all_eq_true.mp hm m h2
        simp only [Bool.and_eq_true, beq_iff_eq, hl] at h1
        have h4 := hp.resolve_left hpr
        simp only [Bool.or_eq_true, Bool.not_eq_true', beq_iff_eq] at h3
        rcases h3 with (h3 | h3) | h3
        · rw [h1.1] at h3; cases h3
        · exact h3
        · rw [List.any_eq_false] at h3
          exact absurd h1.2 (h3 _ h4)
    show ("module " ++ m.name) ++ " of loader " ++ "'bootstrap'" = _
    rw [hname]
    decide
theorem found_k {vm : Vm} {C : String} {c : ClassId} {k : Class} (h : vm.findClass C = some c) (hk : vm.classes[c]? = some k) : k.name = C ∧ k.hidden = none ∧ k.loader = none := by
  obtain ⟨hlt, hp, -⟩ := Array.findIdx?_eq_some_iff_getElem.mp h
  rw [Array.getElem?_eq_getElem hlt] at hk
  rw [Option.some.inj hk] at hp
  simp only [Bool.and_eq_true, beq_iff_eq, Option.isNone_iff_eq_none] at hp
  exact ⟨hp.1.1.1, hp.1.1.2, hp.2⟩
section AC
variable {Γ : Gam} {A : Nat → Prop} {K : JC} {cc : ByteArray} {nL : Nat} {own : String} {hh : List (Nat × Nat × Nat × Nat)} {pc : Nat} {ls : List (Option Value)} {st : List Value} {P P' : PH → Prop} {cs ss d mc ms : Nat} {ret : Option FieldType} {Φ : Outcome → PH → Prop}
/-- an object is cast to a class that it isn't of -/
theorem j_castNo {a idx : Nat} {C nm : String} (hK : Jok Γ A K cc nL own hh) (hQ : Kq Γ A K d mc ms ret Φ) (hlink : Cond.classLink own idx nm ∈ lw_all) (hn : va_Nc C nm (gs Γ)) (hl1 : (dotted C).length ≤ 40) (hl2 : (dotted nm).length ≤ 40) (hp1 : packageOf C ∈ castPackages_1) (hp2 : packageOf nm ∈ castPackages_1) (hr : CellC Γ A K P a C) (hd : decode cc pc = .ok (.checkcast idx, 3)) (hout : ∀ y ∈ tableOf hh, covers y pc = false) (h175 : 175 ≤ d) (hc : cs + 3 ≤ mc) (hs : ss + 1610 ≤ ms) (hst : (st.map fun v => v.category).sum ≤ 7) (hq : ∀ h x, P h → h x = none → Φ (.threw x) (pu h x (.inr (16, [])))) : J Γ A K pc ls (.ref a :: st) P cs ss := fun h H locs arr hP hR hL T hT X => by
  subst hT
  obtain ⟨cell, q1, q2, q3⟩ := hr h T.heap locs hP hR
  obtain ⟨c0, t0, f1, f2, f3⟩ := hn.moved hK.warm.alike
  cases q3.symm.trans f1
  obtain ⟨k0, hk0, -⟩ := Vm.findClass_spec q3
  obtain ⟨vm', ka', kb', X', hka, hkb, hst'⟩ := cast_no X hK.x hK.own (hK.ts _ hlink) q1 q2 hk0 f2 f3 (g := F0 (km K) pc arr (.ref a :: st)) rfl rfl (by rw [hK.b]; exact hd)
  have hal : (ks K).vm.Alike vm' := X'.warmed.alike
  have g1 : vm'.findClass C = some cell.cls := by rw [hal.findClass]; exact q3
  have g2 : vm'.findClass nm = some t0 := by rw [hal.findClass]; exact f2
  have n1 := found_k g1 hka
  have n2 := found_k g2 hkb
  have hmod : (vm'.modules.all fun m => m.loader.isSome || m.name == "java.base" || !(castPackages_1.any fun p => m.packages.contains p)) = true := by
    have e1 : vm'.modules = (ks K).vm.modules := (congrArg (fun v : Vm => v.modules) hal.1).trans rfl
    have e2 : (ks K).vm.modules = (gs Γ).vm.modules := (congrArg (fun v : Vm => v.modules) hK.warm.alike.1).trans rfl
    rw [e1, e2]
    exact hK.g.2.2.2.2
  have o1 := home_of n1.2.2 hmod (Or.inr (by rw [n1.1]; exact hp1))
  have o2 := home_of n2.2.2 hmod (Or.inr (by rw [n2.1]; exact hp2))
  obtain ⟨x, y, ht⟩ := mess_cases n1 n2 o1 o2
  have ok : (checkcast.message vm' ka' kb' == notModelled) = false ∧ (stringBytes (stringToUtf16 (checkcast.message vm' ka' kb'))).size ≤ 1600 := by
    rcases ht with ht | ht
    · rw [ht]; exact tx1_ok hl1 hl2 x
    · rw [ht]; exact tx2_ok hl1 hl2 x y
  obtain ⟨U, a1, b1⟩ := arm_msg (st := .ref a :: st) (pc := pc) (arr := arr) (ci := 16) (cls := RJ14) (text := checkcast.message vm' ka' kb') hK hQ X' hR hL.1 (by decide) (by decide) (by decide) (at_cce hK (AtU.of X' hR)) ok.1 ok.2 rfl rfl rfl hout h175 hc hs (by show 1 + (st.map fun v => v.category).sum ≤ 8; omega) (fun x hx => hq h x hP hx)
  exact ⟨U, hst' U a1, b1⟩
end AC
