/-! THE ENGINE, 2: ends, fields, arrays, new things, calls, throws -/
set_option maxRecDepth 100000
theorem W.post {p : Program} {l : Launch} {e : Env} {R : Room} {s : State} {m : MethodId} {args : Array Value} {below : List Frame} {meth : Method} {c : Code} {H : Heap} {locs : List Loc} {cells slots : Nat} {Q Q' : State → Prop} {g : JFrame} (h : ∀ t, Q t → Q' t) (k : W p l e R s m args below meth c H locs cells slots Q g) : W p l e R s m args below meth c H locs cells slots Q' g := fun T hT X => by
  obtain ⟨t, a, b⟩ := k T hT X
  exact ⟨t, a, h t b⟩
def endQ (Γ : Gam) (A : Nat → Prop) (Φ : Outcome → PH → Prop) : Array Value → State → Outcome → State → Prop := fun _ st o t => (∃ h, Φ o h ∧ RpA Γ A h t.heap ∧ NS A t.heap) ∧ st.heap.size ≤ t.heap.size ∧ ∀ q, ¬ A q → t.heap[q]? = st.heap[q]?
theorem endQ.ct {Γ : Gam} {A : Nat → Prop} {Φ : Outcome → PH → Prop} {a : Array Value} {s t : State} {mc ms : Nat} {below : List Frame} (h : MQ below (endQ Γ A Φ) a s mc ms A t) : ∃ o, t.status = .running ∧ Ended t below o ∧ CtQ Γ A Φ mc ms s o t := by
  obtain ⟨o, h1, h2, ⟨h3, h4, h5⟩, L, ⟨-, h6, h7⟩, h8⟩ := h
  exact ⟨o, h1, h2, h3, h4, h5, h6, L, h7, h8⟩
theorem va_one {D : va_G} {cl : List vw_C} {q : Nat × va_E} {H : Heap} (h : va_at D cl q H) : va_P D cl [q] H := fun k x hk => by
  match k, hk with
  | 0, hk => cases hk; exact h
  | k + 1, hk => simp at hk
theorem va_at.ns {D : va_G} {cl : List vw_C} {a : Nat} {e : va_E} {H : Heap} {c : Cell} (h : va_at D cl (a, e) H) (hc : H[a]? = some c) : c.vm.isStatics = false := by
  cases e with
  | inl x =>
    have h' : H[a]? = some (vp_cell x.1 x.2) := h
    rw [hc] at h'
    rw [Option.some.inj h']
    obtain ⟨k, n, f | f | f | f | f⟩ := x <;> rfl
  | inr x =>
    obtain ⟨r, -, cell, q1, -, q3, -⟩ := h
    have q1' : H[a]? = some cell := q1
    rw [hc] at q1'
    rw [Option.some.inj q1', q3]
    rfl
theorem Rp.put {Γ : Gam} {A : Nat → Prop} {h : PH} {Hs H H' : Heap} {locs : List Loc} {a i : Nat} {e0 e : va_E} (hR : Rp Γ A h Hs H locs) (he : h a = some e0) (z : H'.size = H.size) (o : ∀ q, q ≠ a → H'[q]? = H[q]?) (hv : va_at (gD Γ) vwCl (a, e) H') : Rp Γ A (pu h a e) Hs H' (locs ++ [⟨a, i⟩]) := by
  have hA := (hR.1 a e0 he).2
  refine ⟨fun b x hb => ?_, by rw [z]; exact hR.2.1, fun q hq => ?_, fun q hq => ?_, fun q c hq hc => ?_⟩
  · by_cases eb : b = a
    · subst eb
      rw [pu_self] at hb
      cases hb
      exact ⟨hv, hA⟩
    · rw [pu_ne h e eb] at hb
      obtain ⟨h1, h2⟩ := hR.1 b x hb
      exact ⟨h1.kept (o b eb), h2⟩
  · rw [o q (fun x => hq (by rw [x]; exact hA))]
    exact hR.2.2.1 q hq
  · rcases List.mem_append.mp hq with h1 | h1
    · exact hR.2.2.2.1 q h1
    · rw [List.mem_singleton.mp h1]
      exact hA
  · by_cases eq : q = a
    · subst eq; exact hv.ns hc
    · rw [o q eq] at hc; exact hR.2.2.2.2 q c hq hc
theorem Rp.fresh {Γ : Gam} {A : Nat → Prop} {h : PH} {Hs H : Heap} {locs : List Loc} (hR : Rp Γ A h Hs H locs) : h H.size = none := by
  cases e : h H.size with
  | none => rfl
  | some x => exact absurd (hR.1 _ x e).1.lt (Nat.lt_irrefl _)
theorem Rp.new {Γ : Gam} {A : Nat → Prop} {h : PH} {Hs H H' : Heap} {locs : List Loc} {e : va_E} (hA : ∀ q, Hs.size ≤ q → A q) (hR : Rp Γ A h Hs H locs) (z : H'.size = H.size + 1) (o : ∀ q, q < H.size → H'[q]? = H[q]?) (hv : va_at (gD Γ) vwCl (H.size, e) H') : Rp Γ A (pu h H.size e) Hs H' locs := by
  refine ⟨fun b x hb => ?_, by rw [z]; exact Nat.le_succ_of_le hR.2.1, fun q hq => ?_, hR.2.2.2.1, fun q c hq hc => ?_⟩
  · by_cases eb : b = H.size
    · subst eb
      rw [pu_self] at hb
      cases hb
      exact ⟨hv, hA _ hR.2.1⟩
    · rw [pu_ne h e eb] at hb
      obtain ⟨h1, h2⟩ := hR.1 b x hb
      exact ⟨h1.kept (o b h1.lt), h2⟩
  · have : q < H.size := by
      rcases Nat.lt_or_ge q H.size with g | g
      · exact g
      · exact absurd (hA q (Nat.le_trans hR.2.1 g)) hq
    rw [o q this]
    exact hR.2.2.1 q hq
  · rcases Nat.lt_trichotomy q H.size with g | g | g
    · rw [o q g] at hc; exact hR.2.2.2.2 q c hq hc
    · subst g; exact hv.ns hc
    · have := (Array.getElem?_eq_some_iff.mp hc).1
      omega
section EJ
variable {Γ : Gam} {A : Nat → Prop} {K : JC} {cc : ByteArray} {nL : Nat} {own : String} {hh : List (Nat × Nat × Nat × Nat)} {pc : Nat} {ls : List (Option Value)} {st : List Value} {P P' : PH → Prop} {cs ss d mc ms : Nat} {ret : Option FieldType} {Φ : Outcome → PH → Prop}
/-! ends -/
theorem endq_of {h : PH} {H : Heap} {locs : List Loc} {o : Outcome} (hP : Φ o h) (hR : Rp Γ A h (ks K).heap H locs) : ∀ t : State, t.heap = H → (ks K).WarmedH t.vm → endQ Γ A Φ (ka K) (ks K) o t := fun t ht _ => by
  subst ht
  exact ⟨⟨h, hP, hR.1, hR.2.2.2.2⟩, hR.2.1, hR.2.2.1⟩
theorem j_zret {ty : FieldType} {v : Int32} (hK : Jok Γ A K cc nL own hh) (hQ : Kq Γ A K d mc ms (some ty) Φ) (hn : narrow ty (.int v) = .int v) (hc : cs ≤ mc) (hs : ss ≤ ms) (hd : decode cc pc = .ok (.ireturn, 1)) (hq : ∀ h, P h → Φ (.returned (some (.int v))) h) : J Γ A K pc ls [.int v] P cs ss := fun h H locs arr hP hR hL => by
  refine W.widen hc hs ?_
  show W _ _ _ _ _ _ _ _ _ _ _ _ _ _ (kQ K) _
  rw [hQ.2.2]
  exact W.post (fun t ht => endQ.ct ht) (W.zret hK.x hK.b hQ.2.1 hn (endq_of (hq h hP) hR) hR.2.2.2.1 hd hK.lk)
theorem j_iret {v : Int32} (hK : Jok Γ A K cc nL own hh) (hQ : Kq Γ A K d mc ms (some .int) Φ) (hc : cs ≤ mc) (hs : ss ≤ ms) (hd : decode cc pc = .ok (.ireturn, 1)) (hq : ∀ h, P h → Φ (.returned (some (.int v))) h) : J Γ A K pc ls [.int v] P cs ss := j_zret hK hQ rfl hc hs hd hq
theorem j_lret {v : Int64} (hK : Jok Γ A K cc nL own hh) (hQ : Kq Γ A K d mc ms (some .long) Φ) (hc : cs ≤ mc) (hs : ss ≤ ms) (hd : decode cc pc = .ok (.lreturn, 1)) (hq : ∀ h, P h → Φ (.returned (some (.long v))) h) : J Γ A K pc ls [.long v] P cs ss := fun h H locs arr hP hR hL => by
  refine W.widen hc hs ?_
  show W _ _ _ _ _ _ _ _ _ _ _ _ _ _ (kQ K) _
  rw [hQ.2.2]
  exact W.post (fun t ht => endQ.ct ht) (W.lret hK.x hK.b hQ.2.1 (endq_of (hq h hP) hR) hR.2.2.2.1 hd hK.lk)
theorem j_vret (hK : Jok Γ A K cc nL own hh) (hQ : Kq Γ A K d mc ms none Φ) (hc : cs ≤ mc) (hs : ss ≤ ms) (hd : decode cc pc = .ok (.return_, 1)) (hq : ∀ h, P h → Φ (.returned none) h) : J Γ A K pc ls [] P cs ss := fun h H locs arr hP hR hL => by
  refine W.widen hc hs ?_
  show W _ _ _ _ _ _ _ _ _ _ _ _ _ _ (kQ K) _
  rw [hQ.2.2]
  exact W.post (fun t ht => endQ.ct ht) (W.vret hK.x hK.b hQ.2.1 (endq_of (hq h hP) hR) hR.2.2.2.1 hd hK.lk)
theorem j_aret {rt : FieldType} {v : Value} (hK : Jok Γ A K cc nL own hh) (hQ : Kq Γ A K d mc ms (some rt) Φ) (hrt : (∃ n, rt = .object n) ∨ ∃ t, rt = .array t) (hv : v = .null ∨ ∃ a, v = .ref a) (hc : cs ≤ mc) (hs : ss ≤ ms) (hd : decode cc pc = .ok (.areturn, 1)) (hq : ∀ h, P h → Φ (.returned (some v)) h) : J Γ A K pc ls [v] P cs ss := fun h H locs arr hP hR hL => by
  refine W.widen hc hs ?_
  show W _ _ _ _ _ _ _ _ _ _ _ _ _ _ (kQ K) _
  rw [hQ.2.2]
  exact W.post (fun t ht => endQ.ct ht) (W.aret hK.x hK.b hQ.2.1 hrt hv (endq_of (hq h hP) hR) hR.2.2.2.1 hd hK.lk)
/-! fields -/
theorem j_get {a ci k idx N : Nat} {C ref : String} {T : u_T} {v : Value} (hK : Jok Γ A K cc nL own hh) (hc : vwCl[ci]? = some (C, T, N)) (hin : ∀ w ∈ u_ws C T N, w ∈ lw_all) (hk : k < N) (hlink : Cond.fieldLink own idx ref (T k).2.1 (T k).2.2.1 ∈ lw_all) (hsame : ∀ x, (ks K).fieldFound? (T k).1 (T k).2.1 (T k).2.2.1 = some x → (ks K).fieldFound? ref (T k).2.1 (T k).2.2.1 = some x) (hd : decode cc pc = .ok (.getfield idx, 3))
    (hv : ∀ h, P h → ∃ fs, h a = some (.inr (ci, fs)) ∧ fs[k]? = some v) (kk : J Γ A K (pc + 3) ls (v :: st) P cs ss) : J Γ A K pc ls (.ref a :: st) P cs ss := fun h H locs arr hP hR hL => by
  obtain ⟨fs, h1, h2⟩ := hv h hP
  exact va_get hK.x hK.b hK.ts hin hK.own hK.k (va_one (hR.1 _ _ h1).1) 0 rfl hc k hk (hK.ts _ hlink) hsame h2 hd (kk h H locs arr hP hR hL)
theorem j_getN {a ci k idx N : Nat} {C ref host : String} {T : u_T} {v : Value} (hK : Jok Γ A K cc nL own hh) (hc : vwCl[ci]? = some (C, T, N)) (hin : ∀ w ∈ u_ws C T N, w ∈ lw_all) (hk : k < N) (hlink : Cond.fieldLinkNest own idx ref (T k).2.1 (T k).2.2.1 host ∈ lw_tbl) (hsame : ∀ x, (ks K).fieldFound? (T k).1 (T k).2.1 (T k).2.2.1 = some x → (ks K).fieldFound? ref (T k).2.1 (T k).2.2.1 = some x) (hd : decode cc pc = .ok (.getfield idx, 3))
    (hv : ∀ h, P h → ∃ fs, h a = some (.inr (ci, fs)) ∧ fs[k]? = some v) (kk : J Γ A K (pc + 3) ls (v :: st) P cs ss) : J Γ A K pc ls (.ref a :: st) P cs ss := fun h H locs arr hP hR hL => by
  obtain ⟨fs, h1, h2⟩ := hv h hP
  exact va_getN hK.x hK.b hK.ts hin hK.own hK.k (va_one (hR.1 _ _ h1).1) 0 rfl hc k hk (va_Nw.use rfl (va_Nw.warmF hK.warm (va_Nw.of rfl (hK.g.1 _ hlink)))) hsame h2 hd (kk h H locs arr hP hR hL)
theorem j_put {a ci k idx N : Nat} {C ref : String} {T : u_T} {v : Value} {ty0 : Nat → FieldType} (hK : Jok Γ A K cc nL own hh) (hc : vwCl[ci]? = some (C, T, N)) (hin : ∀ w ∈ u_ws C T N, w ∈ lw_all) (hty : ∀ k, k < N → parseFieldDescriptor (T k).2.2.1 = some (ty0 k)) (hnm : ∀ a, a < N → ∀ b, b < N → a ≠ b → (T a).2.1 ≠ (T b).2.1) (hk : k < N) (hlink : Cond.fieldLink own idx ref (T k).2.1 (T k).2.2.1 ∈ lw_all) (hsame : ∀ x, (ks K).fieldFound? (T k).1 (T k).2.1 (T k).2.2.1 = some x → (ks K).fieldFound? ref (T k).2.1 (T k).2.2.1 = some x) (hfin : (T k).2.2.2 = false) (hn : narrow (ty0 k) v = v) (hfit : fits (ty0 k) v = true) (hd : decode cc pc = .ok (.putfield idx, 3))
    (hv : ∀ h, P h → ∃ fs, h a = some (.inr (ci, fs)) ∧ k < fs.length ∧ P' (pu h a (.inr (ci, fs.set k v)))) (kk : J Γ A K (pc + 3) ls st P' cs ss) : J Γ A K pc ls (v :: .ref a :: st) P cs ss := fun h H locs arr hP hR hL => by
  obtain ⟨fs, h1, hl, h3⟩ := hv h hP
  have hap := va_apart (own := own) hK.ts hin ty0 hty hnm hK.k hc
  obtain ⟨r, e1, cell, q1, q2, q3, q4⟩ := (hR.1 _ _ h1).1
  have hr : r = (C, T, N) := Option.some.inj (e1.symm.trans hc)
  subst hr
  obtain ⟨hS, hfc, kC, hkC, hkind⟩ := hK.k.1 ci _ hc
  obtain ⟨cf, kf, fi, f, hi, hsl⟩ := hS k hk
  have hlay := hK.ts _ (hin _ (u_in_lay hk))
  unfold u_lay at hlay
  rw [if_neg (by rw [hfin]; decide)] at hlay
  have hst := (u_facts hfc hkC (u_lays hK.ts hin hk) hi).1
  have h6 := u_store hfc hkC hkind hlay hi (hty k hk) hn hfit
  refine W.putK hK.x hK.b (f := f) ⟨hK.own, hK.ts _ hlink, ⟨_, _, _, hsame _ hi⟩, hst⟩ (by rw [q2]; exact h6) q1 q3 (by rw [hsl]; exact k2_hasslot (q4 k hk)) rfl rfl hd fun H' x1 x2 x3 => ?_
  rw [hsl] at x1 ⊢
  exact kk _ H' _ arr h3 (hR.put h1 x2 x3 ⟨_, hc, t_OB.to (V := updV (vp_V fs) k v) ⟨_, x1, q2, q3, t_set q4 hap hk v⟩ (fun j _ => vp_updV_set hl v j)⟩) hL
theorem j_putF {a ci k idx N : Nat} {C ref : String} {T : u_T} {v : Value} {ty0 : Nat → FieldType} (hK : Jok Γ A K cc nL own hh) (hc : vwCl[ci]? = some (C, T, N)) (hin : ∀ w ∈ u_ws C T N, w ∈ lw_all) (hty : ∀ k, k < N → parseFieldDescriptor (T k).2.2.1 = some (ty0 k)) (hnm : ∀ a, a < N → ∀ b, b < N → a ≠ b → (T a).2.1 ≠ (T b).2.1) (hk : k < N) (hlink : Cond.fieldLink own idx ref (T k).2.1 (T k).2.2.1 ∈ lw_all) (hsame : ∀ x, (ks K).fieldFound? (T k).1 (T k).2.1 (T k).2.2.1 = some x → (ks K).fieldFound? ref (T k).2.1 (T k).2.2.1 = some x) (hfin : (T k).2.2.2 = true) (hin2 : (kt K).name = "<init>") (hdecl : (T k).1 = own) (hn : narrow (ty0 k) v = v) (hfit : fits (ty0 k) v = true) (hd : decode cc pc = .ok (.putfield idx, 3))
    (hv : ∀ h, P h → ∃ fs, h a = some (.inr (ci, fs)) ∧ k < fs.length ∧ P' (pu h a (.inr (ci, fs.set k v)))) (kk : J Γ A K (pc + 3) ls st P' cs ss) : J Γ A K pc ls (v :: .ref a :: st) P cs ss := fun h H locs arr hP hR hL => by
  obtain ⟨fs, h1, hl, h3⟩ := hv h hP
  have hap := va_apart (own := own) hK.ts hin ty0 hty hnm hK.k hc
  obtain ⟨r, e1, cell, q1, q2, q3, q4⟩ := (hR.1 _ _ h1).1
  have hr : r = (C, T, N) := Option.some.inj (e1.symm.trans hc)
  subst hr
  obtain ⟨hS, hfc, kC, hkC, hkind⟩ := hK.k.1 ci _ hc
  obtain ⟨cf, kf, fi, f, hi, hsl⟩ := hS k hk
  have hlay := hK.ts _ (hin _ (u_in_lay hk))
  unfold u_lay at hlay
  rw [if_pos hfin] at hlay
  have hst := (u_facts hfc hkC (u_lays hK.ts hin hk) hi).1
  have hcf : (km K).cls = cf := by
    obtain ⟨_, _, c', _, _, _, -, -, hf', -, -, -, hown2, -⟩ := Cond.laysFinal_spec hlay
    have e1 : c' = cf := by have := hi.symm.trans hf'; simp at this; exact this.1.symm
    rw [hdecl] at hown2
    rw [← e1]; exact Option.some.inj (hK.own.symm.trans hown2)
  have h6 := u_fits hfc hkC hkind (Or.inr hlay) hi (hty k hk) hn hfit
  refine W.putFinK hK.x hK.b hK.own (hK.ts _ hlink) (hsame _ hi) hst hcf hin2 (by rw [q2]; exact h6) q1 q3 (by rw [hsl]; exact k2_hasslot (q4 k hk)) rfl rfl hd fun H' x1 x2 x3 => ?_
  rw [hsl] at x1 ⊢
  exact kk _ H' _ arr h3 (hR.put h1 x2 x3 ⟨_, hc, t_OB.to (V := updV (vp_V fs) k v) ⟨_, x1, q2, q3, t_set q4 hap hk v⟩ (fun j _ => vp_updV_set hl v j)⟩) hL
/-! arrays of numbers -/
theorem j_iald {a : Nat} {i x : Int32} (hK : Jok Γ A K cc nL own hh) (hd : decode cc pc = .ok (.iaload, 1)) (hv : ∀ h, P h → ∃ n f, h a = some (.inl (gA Γ 0, n, .inl f)) ∧ vp_in i n ∧ f i.toNatClampNeg = x) (kk : J Γ A K (pc + 1) ls (.int x :: st) P cs ss) : J Γ A K pc ls (.int i :: .ref a :: st) P cs ss := fun h H locs arr hP hR hL => by
  obtain ⟨n, f, h1, h2, rfl⟩ := hv h hP
  exact va_iald hK.x hK.b hK.k (va_one (hR.1 _ _ h1).1) 0 0 rfl rfl h2 hd (kk h H locs arr hP hR hL)
theorem j_bald {a : Nat} {i x : Int32} (hK : Jok Γ A K cc nL own hh) (hd : decode cc pc = .ok (.baload, 1)) (hv : ∀ h, P h → ∃ n f, h a = some (.inl (gA Γ 1, n, .inl f)) ∧ vp_in i n ∧ f i.toNatClampNeg = x) (kk : J Γ A K (pc + 1) ls (.int x :: st) P cs ss) : J Γ A K pc ls (.int i :: .ref a :: st) P cs ss := fun h H locs arr hP hR hL => by
  obtain ⟨n, f, h1, h2, rfl⟩ := hv h hP
  exact va_bald hK.x hK.b hK.k (va_one (hR.1 _ _ h1).1) 0 1 rfl rfl h2 hd (kk h H locs arr hP hR hL)
theorem j_sald {a : Nat} {i x : Int32} (hK : Jok Γ A K cc nL own hh) (hd : decode cc pc = .ok (.saload, 1)) (hv : ∀ h, P h → ∃ n f, h a = some (.inl (gA Γ 2, n, .inl f)) ∧ vp_in i n ∧ f i.toNatClampNeg = x) (kk : J Γ A K (pc + 1) ls (.int x :: st) P cs ss) : J Γ A K pc ls (.int i :: .ref a :: st) P cs ss := fun h H locs arr hP hR hL => by
  obtain ⟨n, f, h1, h2, rfl⟩ := hv h hP
  exact va_sald hK.x hK.b hK.k (va_one (hR.1 _ _ h1).1) 0 2 rfl rfl h2 hd (kk h H locs arr hP hR hL)
theorem arrV_congr {cA : ClassId} {n : Nat} {f f' : Nat → Value} (h : ∀ j, j < n → f j = f' j) : arrV cA n f = arrV cA n f' := by
  unfold arrV
  congr 1
  apply Array.ext
  · simp
  · intro i h1 h2
    simp at h1
    simp [h i h1]
theorem vpcell_eq {cA : ClassId} {n : Nat} {f f' : Nat → Int32} (h : ∀ j, j < n → f j = f' j) : vp_cell cA (n, .inl f) = vp_cell cA (n, .inl f') := by
  rw [vp_cell_i, vp_cell_i]
  exact arrV_congr (fun j hj => by rw [h j hj])
theorem arrV_upd {cA : ClassId} {n : Nat} {f : Nat → Int32} {i : Nat} {x : Int32} : (arrV cA n (fun j => .int (f j))).setSlot i (.int x) = vp_cell cA (n, .inl (upd f i x)) := by
  rw [vp_cell_i, arrV_store]
  congr 2
  funext q
  by_cases hq : q = i
  · subst hq
    simp [updV, upd]
  · simp [updV, upd, hq]
theorem j_iast {a : Nat} {i x : Int32} (hK : Jok Γ A K cc nL own hh) (hd : decode cc pc = .ok (.iastore, 1)) (hv : ∀ h, P h → ∃ n f f', h a = some (.inl (gA Γ 0, n, .inl f)) ∧ vp_in i n ∧ (∀ j, j < n → upd f i.toNatClampNeg x j = f' j) ∧ P' (pu h a (.inl (gA Γ 0, n, .inl f')))) (kk : J Γ A K (pc + 1) ls st P' cs ss) : J Γ A K pc ls (.int x :: .int i :: .ref a :: st) P cs ss := fun h H locs arr hP hR hL => by
  obtain ⟨n, f, f', h1, h2, hf, h3⟩ := hv h hP
  have h0 := (hR.1 _ _ h1).1
  refine W.iast hK.x hK.b h0 ((hK.k.2 0 _ rfl).1 n (fun j => .int (f j))) (fun q => by cases q) (by show ¬ (i < 0 ∨ (arrV _ _ _).slots.size ≤ _); rw [arrV_size]; exact h2) rfl rfl hd fun H1 e z oq => ?_
  exact kk _ H1 _ arr h3 (hR.put h1 z oq (by show H1[a]? = some (vp_cell _ _); rw [e]; exact congrArg some (arrV_upd.trans (vpcell_eq hf)))) hL
theorem j_bast {a : Nat} {i x : Int32} (hK : Jok Γ A K cc nL own hh) (hd : decode cc pc = .ok (.bastore, 1)) (hv : ∀ h, P h → ∃ n f f', h a = some (.inl (gA Γ 1, n, .inl f)) ∧ vp_in i n ∧ (∀ j, j < n → upd f i.toNatClampNeg x.toInt8.toInt32 j = f' j) ∧ P' (pu h a (.inl (gA Γ 1, n, .inl f')))) (kk : J Γ A K (pc + 1) ls st P' cs ss) : J Γ A K pc ls (.int x :: .int i :: .ref a :: st) P cs ss := fun h H locs arr hP hR hL => by
  obtain ⟨n, f, f', h1, h2, hf, h3⟩ := hv h hP
  have h0 := (hR.1 _ _ h1).1
  refine W.bast hK.x hK.b h0 ((hK.k.2 1 _ rfl).1 n (fun j => .int (f j))) (fun q => by cases q) (by show ¬ (i < 0 ∨ (arrV _ _ _).slots.size ≤ _); rw [arrV_size]; exact h2) rfl rfl hd fun H1 e z oq => ?_
  exact kk _ H1 _ arr h3 (hR.put h1 z oq (by show H1[a]? = some (vp_cell _ _); rw [e]; exact congrArg some (arrV_upd.trans (vpcell_eq hf)))) hL
theorem j_sast {a : Nat} {i x : Int32} (hK : Jok Γ A K cc nL own hh) (hd : decode cc pc = .ok (.sastore, 1)) (hv : ∀ h, P h → ∃ n f f', h a = some (.inl (gA Γ 2, n, .inl f)) ∧ vp_in i n ∧ (∀ j, j < n → upd f i.toNatClampNeg x.toInt16.toInt32 j = f' j) ∧ P' (pu h a (.inl (gA Γ 2, n, .inl f')))) (kk : J Γ A K (pc + 1) ls st P' cs ss) : J Γ A K pc ls (.int x :: .int i :: .ref a :: st) P cs ss := fun h H locs arr hP hR hL => by
  obtain ⟨n, f, f', h1, h2, hf, h3⟩ := hv h hP
  have h0 := (hR.1 _ _ h1).1
  refine W.sast hK.x hK.b h0 ((hK.k.2 2 _ rfl).1 n (fun j => .int (f j))) (fun q => by cases q) (by show ¬ (i < 0 ∨ (arrV _ _ _).slots.size ≤ _); rw [arrV_size]; exact h2) rfl rfl hd fun H1 e z oq => ?_
  exact kk _ H1 _ arr h3 (hR.put h1 z oq (by show H1[a]? = some (vp_cell _ _); rw [e]; exact congrArg some (arrV_upd.trans (vpcell_eq hf)))) hL
theorem j_alen {a t : Nat} {v : Int32} {cA : ClassId} {ty : FieldType} (hK : Jok Γ A K cc nL own hh) (ht : (tysL (gA Γ))[t]? = some (cA, ty)) (hd : decode cc pc = .ok (.arraylength, 1)) (hv : ∀ h, P h → ∃ x, h a = some (.inl (cA, x)) ∧ Int32.ofNat x.1 = v) (kk : J Γ A K (pc + 1) ls (.int v :: st) P cs ss) : J Γ A K pc ls (.ref a :: st) P cs ss := fun h H locs arr hP hR hL => by
  obtain ⟨x, h1, h2⟩ := hv h hP
  exact va_alen hK.x hK.b hK.k (va_one (hR.1 _ _ h1).1) 0 t rfl ht h2 hd (kk h H locs arr hP hR hL)
/-! new things -/
theorem j_new {ci idx N : Nat} {C : String} {T : u_T} {fs : List Value} {ty0 : Nat → FieldType} (hK : Jok Γ A K cc nL own hh) (hQ : Kq Γ A K d mc ms ret Φ) (hc : vwCl[ci]? = some (C, T, N)) (hin : ∀ w ∈ u_ws C T N, w ∈ lw_all) (hty : ∀ k, k < N → parseFieldDescriptor (T k).2.2.1 = some (ty0 k)) (hcl : Cond.classLink own idx C ∈ lw_all) (hins : Cond.instantiable C N ∈ lw_all) (hini : Cond.initialized C ∈ lw_all) (hfs : ∀ j, j < N → defaultValue (ty0 j) = vp_V fs j) (h1 : cs + 1 ≤ mc) (h2 : ss + N ≤ ms) (hd : decode cc pc = .ok (.new idx, 3))
    (kk : ∀ a, J Γ A K (pc + 3) ls (.ref a :: st) (fun h => ∃ h0, P h0 ∧ h0 a = none ∧ h = pu h0 a (.inr (ci, fs))) (cs + 1) (ss + N)) : J Γ A K pc ls st P cs ss := fun h H locs arr hP hR hL => by
  obtain ⟨hS, hfc, kC0, hkC0, hkind⟩ := hK.k.1 ci _ hc
  refine W.newcK hK.x hK.b hK.own (hK.ts _ hcl) (hK.ts _ hins) (hK.ts _ hini) rfl hd (by rw [hQ.1]; exact h1) (by rw [hQ.1]; exact h2) hfc rfl fun H' kC hkC e1 z o => ?_
  have hb : va_at (gD Γ) vwCl (H.size, .inr (ci, fs)) H' := ⟨_, hc, t_OB.to (u_born (o := H.size) ty0 hK.ts hin (hK.k.1 ci _ hc) hkC e1 hty) hfs⟩
  exact kk H.size _ H' locs arr ⟨h, hP, hR.fresh, rfl⟩ (hR.new hK.a.1 z o hb) hL
theorem j_newa {t : Nat} {atype : ArrayType} {ty : FieldType} {n : Int32} {N : Nat} {x : vp_A} (hK : Jok Γ A K cc nL own hh) (hQ : Kq Γ A K d mc ms ret Φ) (harr : Cond.arrayClass (newarray.typeOf atype) ∈ lw_all) (hty : newarray.typeOf atype = ty) (ht : (tysL (gA Γ))[t]? = some (gA Γ t, ty)) (hra : ∀ (s : State) (c : ClassId), va_RA s c ty → s.vm.findClass ("[" ++ ty.toString) = some c) (hx : ∀ cA : ClassId, vp_cell cA x = arrV cA N (fun _ => defaultValue ty)) (hn : ¬ n < 0) (hN : n.toNatClampNeg = N) (hbytes : N * componentBytes ty ≤ 536870912) (h1 : cs + 1 ≤ mc) (h2 : ss + N ≤ ms) (hd : decode cc pc = .ok (.newarray atype, 2))
    (kk : ∀ a, J Γ A K (pc + 2) ls (.ref a :: st) (fun h => ∃ h0, P h0 ∧ h0 a = none ∧ h = pu h0 a (.inl (gA Γ t, x))) (cs + 1) (ss + N)) : J Γ A K pc ls (.int n :: st) P cs ss := fun h H locs arr hP hR hL => by
  subst hty
  refine va_newaK hK.x hK.b (hK.ts _ harr) rfl hd rfl hn hN hbytes (by rw [hQ.1]; exact h1) (by rw [hQ.1]; exact h2) rfl fun H' cA e1 z o _ hcA => ?_
  have e2 : cA = gA Γ t := Option.some.inj (hcA.symm.trans (hra _ _ (hK.k.2 t _ ht).2))
  subst e2
  have hb : va_at (gD Γ) vwCl (H.size, .inl (gA Γ t, x)) H' := by show H'[H.size]? = some (vp_cell _ _); rw [e1, hx]
  exact kk H.size _ H' locs arr ⟨h, hP, hR.fresh, rfl⟩ (hR.new hK.a.1 z o hb) hL
end EJ
