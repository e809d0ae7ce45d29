/-! the class's object while it is made: a list of cells -/
set_option maxRecDepth 100000
/-- these cells, all at their own places -/
def Wl (l : List (Nat × va_E)) (h : PH) : Prop := (∀ p ∈ l, h p.1 = some p.2) ∧ (l.map Prod.fst).Nodup
theorem Wl.perm {l l' : List (Nat × va_E)} {h : PH} (w : Wl l h) (e : l.Perm l') : Wl l' h := ⟨fun p hp => w.1 p (e.mem_iff.mpr hp), (e.map Prod.fst).nodup_iff.mp w.2⟩
theorem Wl.new {l : List (Nat × va_E)} {h : PH} {b : Nat} (e : va_E) (w : Wl l h) (hb : h b = none) : Wl ((b, e) :: l) (pu h b e) := by
  have hne : ∀ p ∈ l, p.1 ≠ b := fun p hp z => by
    have := w.1 p hp
    rw [z, hb] at this
    cases this
  refine ⟨fun p hp => ?_, ?_⟩
  · rcases List.mem_cons.mp hp with z | z
    · rw [z, pu_self]
    · rw [pu_ne _ _ (hne p z)]; exact w.1 p z
  · rw [List.map_cons, List.nodup_cons]
    refine ⟨fun hm => ?_, w.2⟩
    obtain ⟨p, hp, e⟩ := List.mem_map.mp hm
    exact hne p hp e
theorem Wl.put {l : List (Nat × va_E)} {h : PH} {a : Nat} {e0 : va_E} (e : va_E) (w : Wl ((a, e0) :: l) h) : Wl ((a, e) :: l) (pu h a e) := by
  have h2 := w.2
  rw [List.map_cons, List.nodup_cons] at h2
  refine ⟨fun p hp => ?_, ?_⟩
  · rcases List.mem_cons.mp hp with z | z
    · rw [z, pu_self]
    · rw [pu_ne _ _ (fun q => h2.1 (List.mem_map.mpr ⟨p, z, q⟩))]
      exact w.1 p (List.mem_cons_of_mem _ z)
  · rw [List.map_cons, List.nodup_cons]
    exact h2
theorem Wl.put1 {l : List (Nat × va_E)} {h : PH} {o : Nat × va_E} {a : Nat} {e0 : va_E} (e : va_E) (w : Wl (o :: (a, e0) :: l) h) : Wl (o :: (a, e) :: l) (pu h a e) := ((w.perm (List.Perm.swap _ _ _)).put e).perm (List.Perm.swap _ _ _)
theorem Wl.newT {l : List (Nat × va_E)} {o : Nat × va_E} {b : Nat} {e : va_E} : ∀ h, (∃ h0, Wl (o :: l) h0 ∧ h0 b = none ∧ h = pu h0 b e) → Wl (o :: (b, e) :: l) h := fun h ⟨h0, w, hb, eh⟩ => by
  rw [eh]
  exact (w.new e hb).perm (List.Perm.swap _ _ _)
theorem Wl.newU {l : List (Nat × va_E)} {o p : Nat × va_E} {b : Nat} {e : va_E} : ∀ h, (∃ h0, Wl (o :: p :: l) h0 ∧ h0 b = none ∧ h = pu h0 b e) → Wl (o :: p :: (b, e) :: l) h := fun h ⟨h0, w, hb, eh⟩ => by
  rw [eh]
  exact (w.new e hb).perm ((List.Perm.swap _ _ _).trans ((List.Perm.swap _ _ _).cons _))
/-- the cells by their names -/
theorem Wl.wd {l : List (Nat × va_E)} {h : PH} {nm : List Nat} {S : Nat → Option va_E} {L : Nat → Nat} (w : Wl l h) (e : l.map (fun p => (p.1, some p.2)) = nm.map (fun k => (L k, S k))) (ho : ∀ k, k ∉ nm → S k = none) : WD S L h := by
  have hin : ∀ k, S k ≠ none → k ∈ nm := fun k hk => Classical.byContradiction fun z => hk (ho k z)
  have hmap : l.map Prod.fst = nm.map L := by
    have := congrArg (List.map Prod.fst) e
    rw [List.map_map, List.map_map] at this
    exact this
  refine ⟨fun k x hk => ?_, fun k k' h1 h2 hL => ?_⟩
  · have hm : (L k, S k) ∈ nm.map (fun k => (L k, S k)) := List.mem_map.mpr ⟨k, hin k (by rw [hk]; exact fun z => by cases z), rfl⟩
    rw [← e] at hm
    obtain ⟨p, hp, ep⟩ := List.mem_map.mp hm
    have e1 : p.1 = L k := congrArg Prod.fst ep
    have e2 : some p.2 = S k := congrArg Prod.snd ep
    rw [hk] at e2
    rw [← e1, w.1 p hp, Option.some.inj e2]
  · have hnd := w.2
    rw [hmap] at hnd
    obtain ⟨i, hi, ei⟩ := List.getElem_of_mem (hin k h1)
    obtain ⟨j, hj, ej⟩ := List.getElem_of_mem (hin k' h2)
    have hp := List.pairwise_iff_getElem.mp hnd
    have hlen : (nm.map L).length = nm.length := List.length_map _
    rcases Nat.lt_trichotomy i j with z | z | z
    · refine absurd ?_ (hp i j (by omega) (by omega) z)
      rw [List.getElem_map, List.getElem_map, ei, ej]
      exact hL
    · subst z
      rw [← ei, ← ej]
    · refine absurd ?_ (hp j i (by omega) (by omega) z)
      rw [List.getElem_map, List.getElem_map, ei, ej]
      exact hL.symm
theorem Wl.setS {l : List (Nat × va_E)} {h : PH} {i b : Nat} {e0 : va_E} (e : va_E) (w : Wl l h) (hi : l[i]? = some (b, e0)) : Wl (l.set i (b, e)) (pu h b e) := by
  obtain ⟨hlt, hg⟩ := List.getElem?_eq_some_iff.mp hi
  have hmap : (l.set i (b, e)).map Prod.fst = l.map Prod.fst := by
    rw [List.map_set]
    apply List.ext_getElem?
    intro j
    rw [List.getElem?_set]
    by_cases z : i = j
    · subst z
      rw [if_pos rfl, if_pos (by rw [List.length_map]; exact hlt), List.getElem?_map, hi]
      rfl
    · rw [if_neg z]
  refine ⟨fun p hp => ?_, by rw [hmap]; exact w.2⟩
  obtain ⟨j, hj, ej⟩ := List.getElem_of_mem hp
  rw [List.length_set] at hj
  by_cases z : i = j
  · subst z
    rw [List.getElem_set_self] at ej
    rw [← ej, pu_self]
  · rw [List.getElem_set_ne z] at ej
    have hm : p ∈ l := by rw [← ej]; exact List.getElem_mem hj
    rw [pu_ne _ _ (fun q => ?_)]
    · exact w.1 p hm
    · have hp2 := List.pairwise_iff_getElem.mp w.2
      have hl : (l.map Prod.fst).length = l.length := List.length_map _
      have e1 : p.1 = (l.map Prod.fst)[j]'(by omega) := by rw [List.getElem_map, ej]
      have e2 : b = (l.map Prod.fst)[i]'(by omega) := by rw [List.getElem_map, hg]
      rcases Nat.lt_or_gt_of_ne z with y | y
      · exact hp2 i j (by omega) (by omega) y (by rw [← e1, ← e2]; exact q.symm)
      · exact hp2 j i (by omega) (by omega) y (by rw [← e1, ← e2]; exact q)
section BO
variable {Γ : Gam} {A : Nat → Prop} {K : JC} {cc : ByteArray} {nL : Nat} {own : String} {hh : List (Nat × Nat × Nat × Nat)} {pc : Nat} {ls : List (Option Value)} {st : List Value} {P P' : PH → Prop} {cs ss d mc ms : Nat} {ret : Option FieldType} {Φ : Outcome → PH → Prop} {l : List (Nat × va_E)} {o : Nat × va_E} {a b : Nat}
theorem j_ldcsw {text : String} {idx : Nat} (hK : Jok Γ A K cc nL own hh) (hw : Cond.stringRef own idx text ∈ lw_tbl) (hev : (Term.string own idx).eval #[Value.ref (gb Γ)] (gs Γ) none [] (gs Γ) = some (.ref a)) (hd : decode cc pc = .ok (.ldc_w idx, 3)) (kk : J Γ A K (pc + 3) ls (.ref a :: st) P cs ss) : J Γ A K pc ls st P cs ss := fun h H locs arr hP hR hL T hT X => by
  have hown : (gs Γ).vm.findClass own = some (km K).cls := by rw [← hK.warm.alike.findClass]; exact hK.own
  obtain ⟨k, cf, i, a', hk, hcf, hcp, -, hr, hev'⟩ := Cond.stringRef_spec hown (hK.g.1 _ hw)
  cases hev.symm.trans hev'
  have hWT : (gs Γ).WarmedH T.vm := State.WarmedH.trans hK.warm X.warmed
  obtain ⟨k', hk', he⟩ := hWT.alike.2.2 _ _ hk
  have hr' : k'.resolved[idx]? = some (some (.string a)) := by
    rcases hWT.entry hk hk' idx with h | ⟨h, -⟩
    · rw [h]; exact hr
    · rw [hr] at h; cases h
  obtain ⟨t, a1, b1⟩ := kk h H locs arr hP hR hL T hT X
  refine ⟨t, ?_, b1⟩
  have hx := hK.x
  have hb : decode (kc K).code pc = .ok (.ldc_w idx, 3) := by rw [hK.b]; exact hd
  jvm_step X.here [hx, hb, ldc_w.sem, ldc.wp_string (e := ke K) (s := T) (f := F0 (km K) pc arr st) X.here.top hk' (by rw [he]; exact hcf) hcp hr']
  exact a1
/-- a string of the launch into an array of strings -/
theorem j_aastS {v u : Nat} {bs : List Int32} {i : Int32} (hK : Jok Γ A K cc nL own hh) (hS : sLs Γ v u bs) (hd : decode cc pc = .ok (.aastore, 1)) (hv : ∀ h, P h → ∃ n f f', h a = some (.inl (gA Γ 6, n, rfA f)) ∧ vp_in i n ∧ (∀ j, j < n → va_up f i.toNatClampNeg (some v) j = f' j) ∧ P' (pu h a (.inl (gA Γ 6, n, rfA f')))) (kk : J Γ A K (pc + 1) ls st P' cs ss) : J Γ A K pc ls (.ref v :: .int i :: .ref a :: st) P cs ss := fun h H locs arr hP hR hL => by
  obtain ⟨n, f, f', h1, h2, h6, h7⟩ := hv h hP
  have hlt : i.toNatClampNeg < n := Nat.not_le.mp fun q => h2 (Or.inr q)
  have h0 : ¬ i < 0 := fun q => h2 (Or.inl q)
  obtain ⟨ca, cv, g1, -, g3, -, g5, -⟩ := hS
  have g1' := hK.low hR g1
  have g5' : (ks K).vm.findClass "java/lang/String" = some ca.cls := by rw [hK.warm.alike.findClass]; exact g5
  obtain ⟨kA, comp, k1, k2, k3, -⟩ := (hK.k.2 6 _ rfl).2
  obtain ⟨kE, hkE, -⟩ := Vm.findClass_spec k3
  have ec : ca.cls = comp := Option.some.inj (g5'.symm.trans k3)
  refine W.aast hK.x hK.b (hR.1 _ _ h1).1 (fun q h => by cases h) (fun h => by cases h) k1 k2 rfl hkE ⟨h0, by show _ < (arrV _ _ _).slots.size; rw [arrV_size]; exact hlt⟩ g1' (fun q h => by rw [h] at g3; cases g3) (by rw [ec]; exact hkE) (by rw [ec]; exact va_asg _ _) rfl rfl hd fun H1 e z oq => ?_
  exact kk _ H1 _ arr h7 (hR.put h1 z oq (by show H1[a]? = some (vp_cell _ _); rw [e]; exact congrArg some (arrQ_upd.trans (rfA_congr h6)))) hL
/-- an array of references, pictured anew -/
theorem j_picS {i n t : Nat} {f f' : Nat → Option Nat} (hi : l[i]? = some (b, .inl (gA Γ t, n, rfA f))) (hf : ∀ j, j < n → f j = f' j) (kk : J Γ A K pc ls st (Wl (l.set i (b, .inl (gA Γ t, n, rfA f')))) cs ss) : J Γ A K pc ls st (Wl l) cs ss := by
  refine J.pic (fun h w => ?_) kk
  refine ⟨_, w.setS _ hi, fun q e' hq => ?_⟩
  by_cases z : q = b
  · subst z
    rw [pu_self] at hq
    refine ⟨_, w.1 _ (List.mem_of_getElem? hi), fun H v => ?_⟩
    rw [← Option.some.inj hq]
    exact pic_arr (Γ := Γ) (t := t) hf H v
  · rw [pu_ne _ _ z] at hq
    exact ⟨_, hq, fun H v => v⟩
theorem MuP.wl {h : PH} {a : Nat} (w : MuP Γ (Wl (o :: l)) a 6 7 h) : Wl (o :: (a + 6, .inl (gA Γ 0, 7, .inl fun _ => 0)) :: (a + 5, .inl (gA Γ 0, 7, .inl fun _ => 0)) :: (a + 4, .inl (gA Γ 0, 7, .inl fun _ => 0)) :: (a + 3, .inl (gA Γ 0, 7, .inl fun _ => 0)) :: (a + 2, .inl (gA Γ 0, 7, .inl fun _ => 0)) :: (a + 1, .inl (gA Γ 0, 7, .inl fun _ => 0)) :: (a, .inl (gA Γ 7, 6, rfA fun j => some (a + 1 + j))) :: l) h := by
  obtain ⟨h0, w, fr, out, ha, hr⟩ := w
  have w0 := w.new (.inl (gA Γ 7, 6, rfA fun j => some (a + 1 + j))) (fr 0 (by omega))
  have w1 := w0.new (b := a + 1) (.inl (gA Γ 0, 7, .inl fun _ => 0)) (by rw [pu_ne _ _ (by omega)]; exact fr 1 (by omega))
  have w2 := w1.new (b := a + 2) (.inl (gA Γ 0, 7, .inl fun _ => 0)) (by rw [pu_ne _ _ (by omega), pu_ne _ _ (by omega)]; exact fr 2 (by omega))
  have w3 := w2.new (b := a + 3) (.inl (gA Γ 0, 7, .inl fun _ => 0)) (by rw [pu_ne _ _ (by omega), pu_ne _ _ (by omega), pu_ne _ _ (by omega)]; exact fr 3 (by omega))
  have w4 := w3.new (b := a + 4) (.inl (gA Γ 0, 7, .inl fun _ => 0)) (by rw [pu_ne _ _ (by omega), pu_ne _ _ (by omega), pu_ne _ _ (by omega), pu_ne _ _ (by omega)]; exact fr 4 (by omega))
  have w5 := w4.new (b := a + 5) (.inl (gA Γ 0, 7, .inl fun _ => 0)) (by rw [pu_ne _ _ (by omega), pu_ne _ _ (by omega), pu_ne _ _ (by omega), pu_ne _ _ (by omega), pu_ne _ _ (by omega)]; exact fr 5 (by omega))
  have w6 := w5.new (b := a + 6) (.inl (gA Γ 0, 7, .inl fun _ => 0)) (by rw [pu_ne _ _ (by omega), pu_ne _ _ (by omega), pu_ne _ _ (by omega), pu_ne _ _ (by omega), pu_ne _ _ (by omega), pu_ne _ _ (by omega)]; exact fr 6 (by omega))
  have w7 := w6.perm (List.perm_middle (l₁ := [(a + 6, .inl (gA Γ 0, 7, .inl fun _ => 0)), (a + 5, .inl (gA Γ 0, 7, .inl fun _ => 0)), (a + 4, .inl (gA Γ 0, 7, .inl fun _ => 0)), (a + 3, .inl (gA Γ 0, 7, .inl fun _ => 0)), (a + 2, .inl (gA Γ 0, 7, .inl fun _ => 0)), (a + 1, .inl (gA Γ 0, 7, .inl fun _ => 0)), (a, .inl (gA Γ 7, 6, rfA fun j => some (a + 1 + j)))]) (l₂ := l) (a := o))
  have hin : ∀ j, j < 6 → h (a + (j + 1)) = some (.inl (gA Γ 0, 7, .inl fun _ => 0)) := fun j hj => by rw [show a + (j + 1) = a + 1 + j by omega]; exact hr j hj
  have eh : ∀ q, (∃ e, pu (pu (pu (pu (pu (pu (pu h0 (a + 0) (.inl (gA Γ 7, 6, rfA fun j => some (a + 1 + j)))) (a + 1) (.inl (gA Γ 0, 7, .inl fun _ => 0))) (a + 2) (.inl (gA Γ 0, 7, .inl fun _ => 0))) (a + 3) (.inl (gA Γ 0, 7, .inl fun _ => 0))) (a + 4) (.inl (gA Γ 0, 7, .inl fun _ => 0))) (a + 5) (.inl (gA Γ 0, 7, .inl fun _ => 0))) (a + 6) (.inl (gA Γ 0, 7, .inl fun _ => 0)) q = e) → h q = pu (pu (pu (pu (pu (pu (pu h0 (a + 0) (.inl (gA Γ 7, 6, rfA fun j => some (a + 1 + j)))) (a + 1) (.inl (gA Γ 0, 7, .inl fun _ => 0))) (a + 2) (.inl (gA Γ 0, 7, .inl fun _ => 0))) (a + 3) (.inl (gA Γ 0, 7, .inl fun _ => 0))) (a + 4) (.inl (gA Γ 0, 7, .inl fun _ => 0))) (a + 5) (.inl (gA Γ 0, 7, .inl fun _ => 0))) (a + 6) (.inl (gA Γ 0, 7, .inl fun _ => 0)) q := fun q _ => by
    unfold pu
    by_cases z6 : q = a + 6
    · rw [if_pos z6, z6]; exact hin 5 (by omega)
    rw [if_neg z6]
    by_cases z5 : q = a + 5
    · rw [if_pos z5, z5]; exact hin 4 (by omega)
    rw [if_neg z5]
    by_cases z4 : q = a + 4
    · rw [if_pos z4, z4]; exact hin 3 (by omega)
    rw [if_neg z4]
    by_cases z3 : q = a + 3
    · rw [if_pos z3, z3]; exact hin 2 (by omega)
    rw [if_neg z3]
    by_cases z2 : q = a + 2
    · rw [if_pos z2, z2]; exact hin 1 (by omega)
    rw [if_neg z2]
    by_cases z1 : q = a + 1
    · rw [if_pos z1, z1]; exact hin 0 (by omega)
    rw [if_neg z1]
    by_cases z0 : q = a + 0
    · rw [if_pos z0, z0]; exact ha
    rw [if_neg z0]
    exact out q (by omega)
  exact ⟨fun p hp => (eh p.1 ⟨_, rfl⟩).trans (w7.1 p hp), w7.2⟩
/-! the rows over the list -/
theorem k_put {k idx : Nat} {fs fs' : List Value} {v : Value} (hK : Jok Γ A K cc nL RX0 hh) (hI : (kt K).name = "<init>") (hk : k < 35) (hlink : Cond.fieldLink RX0 idx RX0 (TX0 k).2.1 (TX0 k).2.2.1 ∈ lw_all) (hown : (TX0 k).1 = RX0) (hfin : (TX0 k).2.2.2 = true) (hn : narrow (tyX0 k) v = v) (hfit : fits (tyX0 k) v = true) (hl : k < fs.length) (hfs : fs.set k v = fs') (hd : decode cc pc = .ok (.putfield idx, 3)) (kk : J Γ A K (pc + 3) ls st (Wl ((a, .inr (0, fs')) :: l)) cs ss) : J Γ A K pc ls (v :: .ref a :: st) (Wl ((a, .inr (0, fs)) :: l)) cs ss :=
  j_putF (ci := 0) hK rfl in_X0 tyX0_ok nmX0 hk hlink (fun x h => by rw [hown] at h; exact h) hfin hI hown hn hfit hd (fun h w => ⟨fs, w.1 _ List.mem_cons_self, hl, by rw [hfs]; exact w.put _⟩) kk
theorem k_ast {n : Nat} {F F' : Nat → Int32} {i x : Int32} (hK : Jok Γ A K cc nL own hh) (hi : vp_in i n) (hF : ∀ j, j < n → upd F i.toNatClampNeg x j = F' j) (hd : decode cc pc = .ok (.iastore, 1)) (kk : J Γ A K (pc + 1) ls st (Wl (o :: (b, .inl (gA Γ 0, n, .inl F')) :: l)) cs ss) : J Γ A K pc ls (.int x :: .int i :: .ref b :: st) (Wl (o :: (b, .inl (gA Γ 0, n, .inl F)) :: l)) cs ss :=
  j_iast hK hd (fun h w => ⟨n, F, F', w.1 _ (List.mem_cons_of_mem _ List.mem_cons_self), hi, hF, w.put1 _⟩) kk
theorem k_aastS {n v u : Nat} {bs : List Int32} {f f' : Nat → Option Nat} {i : Int32} (hK : Jok Γ A K cc nL own hh) (hS : sLs Γ v u bs) (hi : vp_in i n) (hF : ∀ j, j < n → va_up f i.toNatClampNeg (some v) j = f' j) (hd : decode cc pc = .ok (.aastore, 1)) (kk : J Γ A K (pc + 1) ls st (Wl (o :: (b, .inl (gA Γ 6, n, rfA f')) :: l)) cs ss) : J Γ A K pc ls (.ref v :: .int i :: .ref b :: st) (Wl (o :: (b, .inl (gA Γ 6, n, rfA f)) :: l)) cs ss :=
  j_aastS hK hS hd (fun h w => ⟨n, f, f', w.1 _ (List.mem_cons_of_mem _ List.mem_cons_self), hi, hF, w.put1 _⟩) kk
/-- a new sheet into the row of sheets -/
theorem k_aastN {n v : Nat} {vs : List Value} {f f' : Nat → Option Nat} {i : Int32} (hK : Jok Γ A K cc nL own hh) (hi : vp_in i n) (hF : ∀ j, j < n → va_up f i.toNatClampNeg (some v) j = f' j) (hd : decode cc pc = .ok (.aastore, 1)) (kk : J Γ A K (pc + 1) ls st (Wl (o :: (b, .inl (gA Γ 8, n, rfA f')) :: (v, .inr (2, vs)) :: l)) cs ss) : J Γ A K pc ls (.ref v :: .int i :: .ref b :: st) (Wl (o :: (b, .inl (gA Γ 8, n, rfA f)) :: (v, .inr (2, vs)) :: l)) cs ss :=
  j_aast (t := 8) (E := "BoatsCalledIn$Sheet") hK rfl hd (fun h w => ⟨n, f, f', 2, vs, _, w.1 _ (List.mem_cons_of_mem _ List.mem_cons_self), hi, w.1 _ (List.mem_cons_of_mem _ (List.mem_cons_of_mem _ List.mem_cons_self)), rfl, Or.inl rfl, hF, w.put1 _⟩) kk
end BO
