/-! THE ENGINE, 5: arrays of references, casts, nest-mates, copies of arrays, leaving by a throw -/
set_option maxRecDepth 100000
abbrev rfA (f : Nat → Option Nat) : (Nat → Int32) ⊕ (Nat → Int64) ⊕ (Nat → UInt32) ⊕ (Nat → UInt64) ⊕ (Nat → Option Nat) := .inr (.inr (.inr (.inr f)))
theorem rfA_congr {cA : ClassId} {n : Nat} {f f' : Nat → Option Nat} (h : ∀ j, j < n → f j = f' j) : vp_cell cA (n, rfA f) = vp_cell cA (n, rfA f') := by
  rw [vp_cell_q, vp_cell_q]
  exact arrV_congr fun j hj => by rw [h j hj]
theorem overA_moved {E : FieldType} {u U : State} {B B' : Array Value} (hvm : u.vm.Alike U.vm) (h : (Cond.arrayOver (.array E)).before B u = true) : (Cond.arrayOver (.array E)).before B' U = true := by
  obtain ⟨comp, c, k, h1, h2, h3, h4, h5⟩ := arrayOverA_spec h
  obtain ⟨k', hk', he⟩ := hvm.2.2 _ _ h3
  have hi : (U.vm.classes.findIdx? fun (x : Class) => match x.kind with | .array component _ => component == comp | _ => false) = some c := by
    rw [hvm.findIdx?_eq _ (fun _ => rfl)]
    exact h2
  have hkind : k'.kind = .array comp (.array E) := by rw [he]; exact h4
  have f1 : U.vm.findClass (FieldType.array E).toString = some comp := by rw [hvm.findClass]; exact h1
  have f2 : U.vm.findClass ("[" ++ (FieldType.array E).toString) = some c := by rw [hvm.findClass]; exact h5
  unfold Cond.before Cond.holds
  simp only [Cond.value]
  rw [f1, Option.bind_some]
  refine (congrArg (fun o : Option Nat => (o.bind (fun c => (U.vm.classes[c]?).map fun (k : Class) => match k.kind with | .array _ ty => decide (ty = FieldType.array E) && decide (U.vm.findClass ("[" ++ (FieldType.array E).toString) = some c) | _ => false) == some true)) hi).trans ?_
  simp [hk', hkind, f2]
section EF
variable {Γ : Gam} {A : Nat → Prop} {K : JC} {cc : ByteArray} {nL : Nat} {own : String} {hh : List (Nat × Nat × Nat × Nat)} {pc : Nat} {ls : List (Option Value)} {st : List Value} {P P' : PH → Prop} {cs ss d mc ms : Nat} {ret : Option FieldType} {Φ : Outcome → PH → Prop}
theorem Jok.cast (hK : Jok Γ A K cc nL own hh) {C E : String} (h : Cond.castable C E ∈ lw_tbl) : va_Nw (.castable C E) (ks K) := va_Nw.warmC hK.warm (va_Nw.of rfl (hK.g.1 _ h))
theorem Jok.over (hK : Jok Γ A K cc nL own hh) {C : String} (h : Cond.arrayOver (.object C) ∈ lw_tbl) : va_AO C (ks K) := va_AO.moved hK.warm.alike (va_AO.of (hK.g.1 _ h))
theorem Jok.nestM (hK : Jok Γ A K cc nL own hh) {a : String} {i : Nat} {x : MethodName} {b : String} (h : Cond.methodLinkNest a i x b ∈ lw_tbl) : (Cond.methodLinkNest a i x b).before (ka K) (ks K) = true := va_Nw.use rfl (va_Nw.warmM hK.warm (va_Nw.of rfl (hK.g.1 _ h)))
theorem Jok.nestF (hK : Jok Γ A K cc nL own hh) {a : String} {i : Nat} {b n d h' : String} (h : Cond.fieldLinkNest a i b n d h' ∈ lw_tbl) : (Cond.fieldLinkNest a i b n d h').before (ka K) (ks K) = true := va_Nw.use rfl (va_Nw.warmF hK.warm (va_Nw.of rfl (hK.g.1 _ h)))
/-! reading and writing arrays of references -/
theorem j_aald {a t : Nat} {i : Int32} {ty : FieldType} {v : Option Nat} (hK : Jok Γ A K cc nL own hh) (ht : (tysL (gA Γ))[t]? = some (gA Γ t, ty)) (hty : ty.isReference = true) (hd : decode cc pc = .ok (.aaload, 1)) (hv : ∀ h, P h → ∃ n f, h a = some (.inl (gA Γ t, n, rfA f)) ∧ vp_in i n ∧ f i.toNatClampNeg = v) (kk : J Γ A K (pc + 1) ls (va_rf v :: st) P cs ss) : J Γ A K pc ls (.int i :: .ref a :: st) P cs ss := fun h H locs arr hP hR hL => by
  obtain ⟨n, f, h1, h2, rfl⟩ := hv h hP
  have hlt : i.toNatClampNeg < n := Nat.not_le.mp fun q => h2 (Or.inr q)
  exact W.aald (v := va_rf (f i.toNatClampNeg)) (ty := ty) hK.x hK.b (hR.1 _ _ h1).1 ((hK.k.2 t _ ht).1 n (fun j => va_rf (f j))) hty (fun q => by cases q) (by show ¬ (i < 0 ∨ (arrV _ _ _).slots.size ≤ _); rw [arrV_size]; exact h2) (by show (arrV _ _ _).slots[_]? = _; rw [arrV_read _ _ hlt]) rfl rfl hd (kk h H locs arr hP hR hL)
theorem arrQ_upd {cA : ClassId} {n : Nat} {f : Nat → Option Nat} {i v : Nat} : (vp_cell cA (n, rfA f)).setSlot i (.ref v) = vp_cell cA (n, rfA (va_up f i (some v))) := by
  rw [vp_cell_q, vp_cell_q, arrV_store]
  congr 1
  funext q
  by_cases hq : q = i
  · subst hq
    simp [updV, va_up, va_rf]
  · simp [updV, va_up, hq]
theorem j_aast {a t v : Nat} {i : Int32} {E : String} (hK : Jok Γ A K cc nL own hh) (ht : (tysL (gA Γ))[t]? = some (gA Γ t, .object E)) (hd : decode cc pc = .ok (.aastore, 1)) (hv : ∀ h, P h → ∃ n f f' ci vs r, h a = some (.inl (gA Γ t, n, rfA f)) ∧ vp_in i n ∧ h v = some (.inr (ci, vs)) ∧ vwCl[ci]? = some r ∧ (r.1 = E ∨ Cond.castable r.1 E ∈ lw_tbl) ∧ (∀ j, j < n → va_up f i.toNatClampNeg (some v) j = f' j) ∧ P' (pu h a (.inl (gA Γ t, n, rfA f')))) (kk : J Γ A K (pc + 1) ls st P' cs ss) : J Γ A K pc ls (.ref v :: .int i :: .ref a :: st) P cs ss := fun h H locs arr hP hR hL => by
  obtain ⟨n, f, f', ci, vs, r, h1, h2, h3, h4, h5, h6, h7⟩ := hv h hP
  have hlt : i.toNatClampNeg < n := Nat.not_le.mp fun q => h2 (Or.inr q)
  have h0 : ¬ i < 0 := fun q => h2 (Or.inl q)
  obtain ⟨r', e1, cellV, g1, g2, g3, -⟩ := (hR.1 _ _ h3).1
  have hcls := (hK.k.1 ci r h4).2
  obtain ⟨kA, comp, k1, k2, k3, -⟩ := (hK.k.2 t _ ht).2
  obtain ⟨kE, hkE, -⟩ := Vm.findClass_spec k3
  obtain ⟨kC, hkC, -⟩ := hcls.2
  have has : (ks K).vm.assignable ((gD Γ).1 ci) comp = true := by
    rcases h5 with h5 | h5
    · have : (gD Γ).1 ci = comp := Option.some.inj (hcls.1.symm.trans (by rw [h5]; exact k3))
      rw [this]
      exact va_asg _ _
    · obtain ⟨c0, t1, f1, f2, f3⟩ := Cond.castable_spec (va_Nw.use (A := #[]) rfl (hK.cast h5))
      cases hcls.1.symm.trans f1
      cases k3.symm.trans f2
      exact f3
  refine W.aast hK.x hK.b (hR.1 _ _ h1).1 (fun q h => by cases h) (fun h => by cases h) k1 k2 rfl hkE ⟨h0, by show _ < (arrV _ _ _).slots.size; rw [arrV_size]; exact hlt⟩ g1 (fun q h => by rw [g3] at h; cases h) (by rw [g2]; exact hkC) (by rw [g2]; exact has) rfl rfl hd fun H1 e z oq => ?_
  exact kk _ H1 _ arr h7 (hR.put h1 z oq (by show H1[a]? = some (vp_cell _ _); rw [e]; exact congrArg some (arrQ_upd.trans (rfA_congr h6)))) hL
/-- an array of arrays: what is stored is an array of the component's class -/
theorem j_aastA {a t u v : Nat} {i : Int32} {E : FieldType} (hK : Jok Γ A K cc nL own hh) (ht : (tysL (gA Γ))[t]? = some (gA Γ t, .array E)) (hu : ∀ s : State, (gs Γ).WarmedH s.vm → va_K (gD Γ) vwCl (tysL (gA Γ)) s → s.vm.findClass (FieldType.array E).toString = some (gA Γ u)) (hov : Cond.arrayOver (.array E) ∈ lw_tbl) (hd : decode cc pc = .ok (.aastore, 1)) (hv : ∀ h, P h → ∃ n f f' x, h a = some (.inl (gA Γ t, n, rfA f)) ∧ vp_in i n ∧ h v = some (.inl (gA Γ u, x)) ∧ (∀ j, j < n → va_up f i.toNatClampNeg (some v) j = f' j) ∧ P' (pu h a (.inl (gA Γ t, n, rfA f')))) (kk : J Γ A K (pc + 1) ls st P' cs ss) : J Γ A K pc ls (.ref v :: .int i :: .ref a :: st) P cs ss := fun h H locs arr hP hR hL => by
  obtain ⟨n, f, f', x, h1, h2, h3, h6, h7⟩ := hv h hP
  have hlt : i.toNatClampNeg < n := Nat.not_le.mp fun q => h2 (Or.inr q)
  have h0 : ¬ i < 0 := fun q => h2 (Or.inl q)
  have hvm0 : (vp_cell (gA Γ u) x).vm = .none := by
    obtain ⟨n, f | f | f | f | f⟩ := x <;> rfl
  have hcl0 : (vp_cell (gA Γ u) x).cls = gA Γ u := by
    obtain ⟨n, f | f | f | f | f⟩ := x <;> rfl
  have huK := hu (ks K) hK.warm hK.k
  have hov' : (Cond.arrayOver (.array E)).before #[] (ks K) = true := overA_moved hK.warm.alike (hK.g.1 _ hov)
  obtain ⟨comp, cA, kA, hcomp, hidx, hkA, hkindA, hnameA⟩ := arrayOverA_spec hov'
  have ecomp : comp = gA Γ u := Option.some.inj (hcomp.symm.trans huK)
  have eA : cA = gA Γ t := Option.some.inj (hnameA.symm.trans ((hK.k.2 t _ ht).2))
  subst ecomp; subst eA
  obtain ⟨kE, hkE, -⟩ := Vm.findClass_spec hcomp
  refine W.aast hK.x hK.b (hR.1 _ _ h1).1 (fun q h => by cases h) (fun h => by cases h) hkA hkindA rfl hkE ⟨h0, by show _ < (arrV _ _ _).slots.size; rw [arrV_size]; exact hlt⟩ (hR.1 _ _ h3).1 (fun q h => by rw [hvm0] at h; cases h) (by rw [hcl0]; exact hkE) (by rw [hcl0]; exact va_asg _ _) rfl rfl hd fun H1 e z oq => ?_
  exact kk _ H1 _ arr h7 (hR.put h1 z oq (by show H1[a]? = some (vp_cell _ _); rw [e]; exact congrArg some (arrQ_upd.trans (rfA_congr h6)))) hL
/-! new arrays of references -/
theorem j_anew {t idx : Nat} {n : Int32} {N : Nat} {C : String} (hK : Jok Γ A K cc nL own hh) (hQ : Kq Γ A K d mc ms ret Φ) (hcl : Cond.classLink own idx C ∈ lw_all) (hov : Cond.arrayOver (.object C) ∈ lw_tbl) (ht : (tysL (gA Γ))[t]? = some (gA Γ t, .object C)) (hn : ¬ n < 0) (hN : n.toNatClampNeg = N) (hbytes : N * 4 ≤ 536870912) (h1 : cs + 1 ≤ mc) (h2 : ss + N ≤ ms) (hd : decode cc pc = .ok (.anewarray idx, 3))
    (kk : ∀ a, J Γ A K (pc + 3) ls (.ref a :: st) (fun h => ∃ h0, P h0 ∧ h0 a = none ∧ h = pu h0 a (.inl (gA Γ t, N, rfA (fun _ => none)))) (cs + 1) (ss + N)) : J Γ A K pc ls (.int n :: st) P cs ss := fun h H locs arr hP hR hL => by
  subst hN
  refine W.anew hK.x hK.b hK.own (hK.ts _ hcl) (va_AO.use (hK.over hov)) rfl hd rfl hn hbytes (by rw [hQ.1]; exact h1) (by rw [hQ.1]; exact h2) fun cA kA comp f1 f2 f3 f4 => ?_
  obtain ⟨kA', comp', k1, k2, k3, k4⟩ := (hK.k.2 t _ ht).2
  have e2 : cA = gA Γ t := Option.some.inj (f1.symm.trans k4)
  subst e2
  generalize hH1 : H.push ({ cls := gA Γ t, slots := Array.replicate n.toNatClampNeg .null, vm := .none } : Cell) = H1
  have z1 : H1.size = H.size + 1 := by rw [← hH1, Array.size_push]
  have e1 : H1[H.size]? = some (arrV (gA Γ t) n.toNatClampNeg (fun _ => .null)) := by rw [← hH1, Array.getElem?_push_size, ← arrV_new]
  have o1 : ∀ q : Nat, q < H.size → H1[q]? = H[q]? := fun q hq => by rw [← hH1, Array.getElem?_push, if_neg (Nat.ne_of_lt hq)]
  exact kk H.size _ H1 locs arr ⟨h, hP, hR.fresh, rfl⟩ (hR.new hK.a.1 z1 o1 e1) hL
theorem j_anewA {t idx : Nat} {n : Int32} {N : Nat} {E : FieldType} (hK : Jok Γ A K cc nL own hh) (hQ : Kq Γ A K d mc ms ret Φ) (hcl : Cond.classLink own idx (FieldType.array E).toString ∈ lw_all) (hov : Cond.arrayOver (.array E) ∈ lw_tbl) (ht : (tysL (gA Γ))[t]? = some (gA Γ t, .array E)) (hn : ¬ n < 0) (hN : n.toNatClampNeg = N) (hbytes : N * 4 ≤ 536870912) (h1 : cs + 1 ≤ mc) (h2 : ss + N ≤ ms) (hd : decode cc pc = .ok (.anewarray idx, 3))
    (kk : ∀ a, J Γ A K (pc + 3) ls (.ref a :: st) (fun h => ∃ h0, P h0 ∧ h0 a = none ∧ h = pu h0 a (.inl (gA Γ t, N, rfA (fun _ => none)))) (cs + 1) (ss + N)) : J Γ A K pc ls (.int n :: st) P cs ss := fun h H locs arr hP hR hL => by
  subst hN
  have hov' : (Cond.arrayOver (.array E)).before (ka K) (ks K) = true := overA_moved hK.warm.alike (hK.g.1 _ hov)
  refine W.anewA hK.x hK.b hK.own (hK.ts _ hcl) hov' rfl hd rfl hn hbytes (by rw [hQ.1]; exact h1) (by rw [hQ.1]; exact h2) fun cA kA comp f1 f2 f3 f4 => ?_
  have e2 : cA = gA Γ t := Option.some.inj (f1.symm.trans ((hK.k.2 t _ ht).2))
  subst e2
  generalize hH1 : H.push ({ cls := gA Γ t, slots := Array.replicate n.toNatClampNeg .null, vm := .none } : Cell) = H1
  have z1 : H1.size = H.size + 1 := by rw [← hH1, Array.size_push]
  have e1 : H1[H.size]? = some (arrV (gA Γ t) n.toNatClampNeg (fun _ => .null)) := by rw [← hH1, Array.getElem?_push_size, ← arrV_new]
  have o1 : ∀ q : Nat, q < H.size → H1[q]? = H[q]? := fun q hq => by rw [← hH1, Array.getElem?_push, if_neg (Nat.ne_of_lt hq)]
  exact kk H.size _ H1 locs arr ⟨h, hP, hR.fresh, rfl⟩ (hR.new hK.a.1 z1 o1 e1) hL
/-! casts -/
/-- the cell at a is of the class C -/
def CellC (Γ : Gam) (A : Nat → Prop) (K : JC) (P : PH → Prop) (a : Nat) (C : String) : Prop := ∀ (h : PH) (H : Heap) (locs : List Loc), P h → Rp Γ A h (ks K).heap H locs → ∃ cell : Cell, H[a]? = some cell ∧ cell.vm.isStatics = false ∧ (ks K).vm.findClass C = some cell.cls
theorem IsC.cellC {a : Nat} {C : String} (hK : Jok Γ A K cc nL own hh) (hr : IsC P a C) : CellC Γ A K P a C := fun _ _ _ hP hR => hr.cell hK hP hR
theorem CellC.arr {a t : Nat} {ty : FieldType} {C : String} (hK : Jok Γ A K cc nL own hh) (ht : (tysL (gA Γ))[t]? = some (gA Γ t, ty)) (hC : ∀ (s : State) (c : ClassId), va_RA s c ty → s.vm.findClass C = some c) (hv : ∀ h, P h → ∃ x, h a = some (.inl (gA Γ t, x))) : CellC Γ A K P a C := fun h H locs hP hR => by
  obtain ⟨x, h1⟩ := hv h hP
  have hvm0 : (vp_cell (gA Γ t) x).vm = .none := by
    obtain ⟨n, f | f | f | f | f⟩ := x <;> rfl
  have hcl0 : (vp_cell (gA Γ t) x).cls = gA Γ t := by
    obtain ⟨n, f | f | f | f | f⟩ := x <;> rfl
  exact ⟨_, (hR.1 _ _ h1).1, by rw [hvm0]; rfl, by rw [hcl0]; exact hC _ _ (hK.k.2 t _ ht).2⟩
theorem j_inst1 {a idx : Nat} {nm : String} (hK : Jok Γ A K cc nL own hh) (hlink : Cond.classLink own idx nm ∈ lw_all) (hr : CellC Γ A K P a nm) (hd : decode cc pc = .ok (.instanceof idx, 3)) (kk : J Γ A K (pc + 3) ls (.int 1 :: st) P cs ss) : J Γ A K pc ls (.ref a :: st) P cs ss := fun h H locs arr hP hR hL =>
  va_instE hK.x hK.b hK.own (hK.ts _ hlink) (hr h H locs hP hR) hd (kk h H locs arr hP hR hL)
theorem j_cast1 {a idx : Nat} {nm : String} (hK : Jok Γ A K cc nL own hh) (hlink : Cond.classLink own idx nm ∈ lw_all) (hr : CellC Γ A K P a nm) (hd : decode cc pc = .ok (.checkcast idx, 3)) (kk : J Γ A K (pc + 3) ls (.ref a :: st) P cs ss) : J Γ A K pc ls (.ref a :: st) P cs ss := fun h H locs arr hP hR hL =>
  va_castE hK.x hK.b hK.own (hK.ts _ hlink) (hr h H locs hP hR) hd (kk h H locs arr hP hR hL)
theorem j_castC {a idx : Nat} {C nm : String} (hK : Jok Γ A K cc nL own hh) (hlink : Cond.classLink own idx nm ∈ lw_all) (hc : Cond.castable C nm ∈ lw_tbl) (hr : CellC Γ A K P a C) (hd : decode cc pc = .ok (.checkcast idx, 3)) (kk : J Γ A K (pc + 3) ls (.ref a :: st) P cs ss) : J Γ A K pc ls (.ref a :: st) P cs ss := fun h H locs arr hP hR hL =>
  va_castY hK.x hK.b hK.own (hK.ts _ hlink) (hK.cast hc) (hr h H locs hP hR) hd (kk h H locs arr hP hR hL)
theorem j_inst0 {a idx : Nat} {C nm : String} (hK : Jok Γ A K cc nL own hh) (hlink : Cond.classLink own idx nm ∈ lw_all) (hn : va_Nc C nm (gs Γ)) (hr : CellC Γ A K P a C) (hd : decode cc pc = .ok (.instanceof idx, 3)) (kk : J Γ A K (pc + 3) ls (.int 0 :: st) P cs ss) : J Γ A K pc ls (.ref a :: st) P cs ss := fun h H locs arr hP hR hL =>
  va_instNo hK.x hK.b hK.own (hK.ts _ hlink) (hn.moved hK.warm.alike) (hr h H locs hP hR) hd (kk h H locs arr hP hR hL)
theorem j_instN {idx : Nat} (hK : Jok Γ A K cc nL own hh) (hd : decode cc pc = .ok (.instanceof idx, 3)) (kk : J Γ A K (pc + 3) ls (.int 0 :: st) P cs ss) : J Γ A K pc ls (.null :: st) P cs ss := fun h H locs arr hP hR hL => lv_instN hK.x hK.b hd (kk h H locs arr hP hR hL)
theorem j_castN {idx : Nat} (hK : Jok Γ A K cc nL own hh) (hd : decode cc pc = .ok (.checkcast idx, 3)) (kk : J Γ A K (pc + 3) ls (.null :: st) P cs ss) : J Γ A K pc ls (.null :: st) P cs ss := fun h H locs arr hP hR hL => lv_castN hK.x hK.b hd (kk h H locs arr hP hR hL)
/-! a nest-mate's field is written -/
theorem j_putN {a ci k idx N : Nat} {C ref host : String} {T : u_T} {v : Value} {ty0 : Nat → FieldType} (hK : Jok Γ A K cc nL own hh) (hc : vwCl[ci]? = some (C, T, N)) (hin : ∀ w ∈ u_ws C T N, w ∈ lw_all) (hty : ∀ k, k < N → parseFieldDescriptor (T k).2.2.1 = some (ty0 k)) (hnm : ∀ a, a < N → ∀ b, b < N → a ≠ b → (T a).2.1 ≠ (T b).2.1) (hk : k < N) (hlink : Cond.fieldLinkNest own idx ref (T k).2.1 (T k).2.2.1 host ∈ lw_tbl) (hsame : ∀ x, (ks K).fieldFound? (T k).1 (T k).2.1 (T k).2.2.1 = some x → (ks K).fieldFound? ref (T k).2.1 (T k).2.2.1 = some x) (hfin : (T k).2.2.2 = false) (hn : narrow (ty0 k) v = v) (hfit : fits (ty0 k) v = true) (hd : decode cc pc = .ok (.putfield idx, 3))
    (hv : ∀ h, P h → ∃ fs, h a = some (.inr (ci, fs)) ∧ k < fs.length ∧ P' (pu h a (.inr (ci, fs.set k v)))) (kk : J Γ A K (pc + 3) ls st P' cs ss) : J Γ A K pc ls (v :: .ref a :: st) P cs ss := fun h H locs arr hP hR hL => by
  obtain ⟨fs, h1, hl, h3⟩ := hv h hP
  have hap := va_apart (own := own) hK.ts hin ty0 hty hnm hK.k hc
  obtain ⟨r, e1, cell, q1, q2, q3, q4⟩ := (hR.1 _ _ h1).1
  have hr : r = (C, T, N) := Option.some.inj (e1.symm.trans hc)
  subst hr
  obtain ⟨hS, hfc, kC, hkC, hkind⟩ := hK.k.1 ci _ hc
  obtain ⟨cf, kf, fi, f, hi, hsl⟩ := hS k hk
  have hlay := hK.ts _ (hin _ (u_in_lay hk))
  unfold u_lay at hlay
  rw [if_neg (by rw [hfin]; decide)] at hlay
  have hst := (u_facts hfc hkC (u_lays hK.ts hin hk) hi).1
  have h6 := u_store hfc hkC hkind hlay hi (hty k hk) hn hfit
  refine va_WputK hK.x hK.b (f := f) hK.own (hK.nestF hlink) (hsame _ hi) hst (by rw [q2]; exact h6) q1 q3 (by rw [hsl]; exact k2_hasslot (q4 k hk)) rfl rfl hd fun H' x1 x2 x3 => ?_
  rw [hsl] at x1 ⊢
  exact kk _ H' _ arr h3 (hR.put h1 x2 x3 ⟨_, hc, t_OB.to (V := updV (vp_V fs) k v) ⟨_, x1, q2, q3, t_set q4 hap hk v⟩ (fun j _ => vp_updV_set hl v j)⟩) hL
/-! calls of a nest-mate's methods -/
theorem j_callSN {y : MethodName} {ws : List Cond} {d' mc' ms' L' n idx : Nat} {host : String} {as stk : List Value} {Ψ : Outcome → PH → Prop} (hK : Jok Γ A K cc nL own hh) (hQ : Kq Γ A K d mc ms ret Φ) (hC : Ct Γ A y ws d' mc' ms' as P Ψ) (cal : CalS y ws L' n) (hlink : Cond.methodLinkNest own idx y host ∈ lw_tbl) (hd : decode cc pc = .ok (.invokestatic idx, 3)) (hst : stk = as.reverse ++ st)
    (hlen : as.length = n) (hdd : d' < d) (hcs : cs + mc' ≤ mc) (hss : ss + ms' ≤ ms) (hsum : (st.map fun v => v.category).sum ≤ 8)
    (kr : ∀ v, J Γ A K (pc + 3) ls (v.toList ++ st) (Ψ (.returned v)) (cs + mc') (ss + ms')) (kx : ∀ x, JT Γ A K pc ls st x (Ψ (.threw x)) (cs + mc') (ss + ms')) : J Γ A K pc ls stk P cs ss := by
  obtain ⟨hws, hstat, hini, hcd, hy, hpar, hL⟩ := cal
  refine j_site hK hQ hC hws hini hdd hL hcs hss hd hsum (fun h H locs arr hP hR harr T hT X => ?_) kr kx
  obtain ⟨mk, meth, c, hn, hm, hc, hLc, hsig⟩ := hcd _ _ hK.ts
  have hstatic := Cond.static_spec hn hm (hK.ts _ hstat)
  obtain ⟨kP, hkP, -⟩ := className_of_methodNamed hn
  have hinitP : kP.init = .initialized := Cond.initialized_spec (findClass_of_methodNamed hn) hkP (hK.ts _ hini)
  obtain ⟨vm₁, X₁, hstep⟩ := X.invokestaticNest hK.x hK.own (hK.nestM hlink) hn hm hstatic hkP hinitP hy (g := F0 (km K) pc arr stk) rfl (argsL := as) (rest := st) (len_of hpar hsig hlen) hst (by rw [hK.b]; exact hd)
  exact ⟨mk, hn, ⟨meth, c, hm, hc, hLc⟩, vm₁, X₁, hstep⟩
theorem j_callVN {y : MethodName} {ws : List Cond} {d' mc' ms' L' n idx a : Nat} {C host : String} {as stk : List Value} {Ψ : Outcome → PH → Prop} (hK : Jok Γ A K cc nL own hh) (hQ : Kq Γ A K d mc ms ret Φ) (hC : Ct Γ A y ws d' mc' ms' (.ref a :: as) P Ψ) (cal : CalV C y y ws L' n) (hrec : IsC P a C) (hlink : Cond.methodLinkNest own idx y host ∈ lw_tbl) (hd : decode cc pc = .ok (.invokevirtual idx, 3)) (hst : stk = as.reverse ++ .ref a :: st)
    (hlen : as.length = n) (hdd : d' < d) (hcs : cs + mc' ≤ mc) (hss : ss + ms' ≤ ms) (hsum : (st.map fun v => v.category).sum ≤ 8)
    (kr : ∀ v, J Γ A K (pc + 3) ls (v.toList ++ st) (Ψ (.returned v)) (cs + mc') (ss + ms')) (kx : ∀ x, JT Γ A K pc ls st x (Ψ (.threw x)) (cs + mc') (ss + ms')) : J Γ A K pc ls stk P cs ss := by
  obtain ⟨hws, hinst, hsel, hini, hcd, hy, hpar, hL⟩ := cal
  refine j_site hK hQ hC hws hini hdd hL hcs hss hd hsum (fun h H locs arr hP hR harr T hT X => ?_) kr kx
  obtain ⟨mk, methM, hnamed, hmethM, hstM, habM⟩ := Cond.instanceMethod_spec (hK.ts _ hinst)
  obtain ⟨mk', meth', c, hn, hm, hc, hLc, hsig⟩ := hcd _ _ hK.ts
  cases hnamed.symm.trans hn
  cases hmethM.symm.trans hm
  obtain ⟨cellB, hcell, hobj, hcls⟩ := hrec.cell hK hP hR
  obtain ⟨c2, r2, m2, q1, q2, q3, q4, kP, hkP, hkPi⟩ := Cond.selects_spec (hK.ts _ hsel)
  cases hcls.symm.trans q1
  cases (State.methodFound?_of_named hnamed hy).symm.trans q2
  cases hnamed.symm.trans q3
  have hselP : selectMethod (ke K).platform (ks K).vm cellB.cls mk = .method mk := by rw [Launch.admits_selectMethod X.admits]; exact q4
  obtain ⟨vm₁, X₁, hstep⟩ := X.invokevirtualNest hK.x hK.own (hK.nestM hlink) hnamed hmethM hstM hkP hkPi hy (a := a) (cell := cellB) (by rw [hT]; exact hcell)
    (fun z h => by rw [h] at hobj; cases hobj) hselP hmethM habM hkP hkPi (g := F0 (km K) pc arr stk) rfl (argsL := as) (rest := st) (len_of hpar hsig hlen) hst (by rw [hK.b]; exact hd)
  exact ⟨mk, hn, ⟨methM, c, hm, hc, hLc⟩, vm₁, X₁, hstep⟩
theorem j_callIN {y : MethodName} {ws : List Cond} {b : ByteArray} {d' mc' ms' L' n idx a : Nat} {host : String} {as stk : List Value} {Ψ : Outcome → PH → Prop} (hK : Jok Γ A K cc nL own hh) (hQ : Kq Γ A K d mc ms ret Φ) (hC : Ct Γ A y ws d' mc' ms' (.ref a :: as) P Ψ) (cal : CalI y ws b L' n) (hlink : Cond.methodLinkNest own idx y host ∈ lw_tbl) (hd : decode cc pc = .ok (.invokespecial idx, 3)) (hst : stk = as.reverse ++ .ref a :: st)
    (hlen : as.length = n) (hdd : d' < d) (hcs : cs + mc' ≤ mc) (hss : ss + ms' ≤ ms) (hsum : (st.map fun v => v.category).sum ≤ 8)
    (kr : ∀ v, J Γ A K (pc + 3) ls (v.toList ++ st) (Ψ (.returned v)) (cs + mc') (ss + ms')) (kx : ∀ x, JT Γ A K pc ls st x (Ψ (.threw x)) (cs + mc') (ss + ms')) : J Γ A K pc ls stk P cs ss := by
  obtain ⟨hws, hinst, hini, hcode, hy, hpar, hL, hy1⟩ := cal
  refine j_site hK hQ hC hws hini hdd hL hcs hss hd hsum (fun h H locs arr hP hR harr T hT X => ?_) kr kx
  have hpl : (ke K).platform.magicAccessors = ({} : Platform).magicAccessors := by rw [X.admits.platform]
  obtain ⟨mk, methM, cM, kP, vm₁, hnamed, hmethM, hcodeM, -, hlocalsM, -, hkP, -, hW₁, hstep₁⟩ := Steps.initColdArgsNest (e := ke K) X.here hK.x X.warmed hpl hK.own hy1 hy (hK.nestM hlink) (hK.ts _ hinst) (hK.ts _ hcode) (f := F0 (km K) pc arr stk) rfl (fun sig hs => len_of hpar hs hlen) hst (by rw [hK.b]; exact hd)
  exact ⟨mk, hnamed, ⟨methM, cM, hmethM, hcodeM, hlocalsM⟩, vm₁, X.noted hW₁, hstep₁⟩
/-! leaving by a throw -/
theorem jt_leave {x : Nat} (hK : Jok Γ A K cc nL own hh) (hQ : Kq Γ A K d mc ms ret Φ) (hout : ∀ y ∈ tableOf hh, covers y pc = false) (hc : cs ≤ mc) (hs : ss ≤ ms) (hq : ∀ h, P h → Φ (.threw x) h) : JT Γ A K pc ls st x P cs ss := fun h H locs arr hP hR hL T hT X => by
  subst hT
  obtain ⟨hst, h1, h2, h3, h4⟩ := X.leaveThrown x (g := F0 (km K) pc arr st) rfl rfl rfl (by rw [hK.ex]; exact hout) hK.lk
  refine ⟨_, hst, ?_⟩
  rw [hQ.2.2]
  refine ⟨.threw x, h1, h2, ⟨h, hq h hP, hR.1, hR.2.2.2.2⟩, hR.2.1, hR.2.2.1, h3, locs, ?_, hR.2.2.2.1⟩
  exact h4.mono hc hs
theorem JT.mono {x : Nat} (h : ∀ q, P q → P' q) (k : JT Γ A K pc ls st x P' cs ss) : JT Γ A K pc ls st x P cs ss := fun y H locs arr hP hR hL => k y H locs arr (h y hP) hR hL
/-- the object is thrown, and leaves -/
theorem j_athrow {x : Nat} (hK : Jok Γ A K cc nL own hh) (hd : decode cc pc = .ok (.athrow, 1)) (kk : JT Γ A K pc ls st x P cs ss) : J Γ A K pc ls (.ref x :: st) P cs ss := fun h H locs arr hP hR hL T hT X => by
  obtain ⟨t, a1, b1⟩ := kk h H locs arr hP hR hL T hT X
  refine ⟨t, ?_, b1⟩
  have hdg : decode (kc K).code (F0 (km K) pc arr (.ref x :: st)).pc = .ok (.athrow, 1) := by rw [hK.b]; exact hd
  have hex := hK.x
  jvm_step X.here [hex, hdg, athrow.wp_sem]
  exact a1
end EF
