/-! the machine's own throws, out of a method -/
set_option maxRecDepth 100000
section AE
variable {Γ : Gam} {A : Nat → Prop} {K : JC} {cc : ByteArray} {nL : Nat} {own : String} {hh : List (Nat × Nat × Nat × Nat)} {pc : Nat} {ls : List (Option Value)} {st : List Value} {P P' : PH → Prop} {cs ss d mc ms : Nat} {ret : Option FieldType} {Φ : Outcome → PH → Prop} {h : PH} {locs : List Loc} {T U : State}
abbrev ft (K : JC) (T : State) : State := T.setFrames (.invoking (km K) (ka K) :: kb K)
theorem same_un {B : State} {F : List Frame} {l : List Loc} {c n : Nat} (hs : (T.setFrames F).sameButNew B l c n) : T.sameButNew B l c n := by
  obtain ⟨q1, q2, q3, q4, q5, q6⟩ := hs
  refine ⟨?_, q2, q3, q4, q5, q6⟩
  rw [State.setFrames_setFrames] at q1
  exact q1
theorem arm_end (hK : Jok Γ A K cc nL own hh) (hQ : Kq Γ A K d mc ms ret Φ) (X : Sk Γ K T locs cs ss) (hR : Rp Γ A h (ks K).heap T.heap locs) {x c2 n2 ci : Nat} {cell : Cell} {r : vw_C} (hrun : U.status = .running) (hend : Ended U (kb K) (.threw x)) (hwU : (ft K T).WarmedH U.vm) (hsame : (ft K T).sameButNew ({ U with vm := (ft K T).vm } : State) [] c2 n2) (hx : T.heap.size ≤ x) (hcell : U.heap[x]? = some cell) (hvm : cell.vm = .none) (hci : vwCl[ci]? = some r) (hN : r.2.2 = 0) (hcls : T.vm.findClass r.1 = some cell.cls) (hns : ∀ (q : Nat) (c : Cell), T.heap.size ≤ q → U.heap[q]? = some c → c.vm.isStatics = false) (hc : cs + c2 ≤ mc) (hs : ss + n2 ≤ ms) (hq : Φ (.threw x) (pu h x (.inr (ci, [])))) : kQ K U := by
  have old : ∀ (q : Nat) (c : Cell), T.heap[q]? = some c → U.heap[q]? = some c := fun q c hc => State.sameButNew.old_cell (s := ft K T) (s' := ({ U with vm := (ft K T).vm } : State)) hsame hc
  have same : ∀ q : Nat, q < T.heap.size → U.heap[q]? = T.heap[q]? := fun q hq => by
    rw [Array.getElem?_eq_getElem hq]
    exact old q _ (Array.getElem?_eq_getElem hq)
  have hsz : T.heap.size ≤ U.heap.size := hsame.2.1
  have hA : ∀ q, T.heap.size ≤ q → A q := fun q hq => hK.a.1 q (Nat.le_trans hR.2.1 hq)
  have hcl2 : (ks K).vm.findClass r.1 = some cell.cls := by rw [← X.warmed.alike.findClass]; exact hcls
  rw [hQ.2.2]
  refine ⟨.threw x, hrun, hend, ⟨_, hq, fun b e hb => ?_, fun q c hq hcq => ?_⟩, Nat.le_trans hR.2.1 hsz, fun q hq => ?_, State.WarmedH.trans X.warmed hwU, locs, ?_, hR.2.2.2.1⟩
  · by_cases eb : b = x
    · subst eb
      rw [pu_self] at hb
      cases hb
      refine ⟨⟨r, hci, cell, hcell, ?_, hvm, fun k hk => by rw [hN] at hk; omega⟩, hA b hx⟩
      obtain ⟨-, hC, -⟩ := hK.k.1 ci r hci
      exact Option.some.inj (hcl2.symm.trans hC)
    · rw [pu_ne _ _ eb] at hb
      obtain ⟨a1, a2⟩ := hR.1 b e hb
      exact ⟨a1.kept (same b a1.lt), a2⟩
  · rcases Nat.lt_or_ge q T.heap.size with g | g
    · rw [same q g] at hcq; exact hR.2.2.2.2 q c hq hcq
    · exact hns q c g hcq
  · rcases Nat.lt_or_ge q T.heap.size with g | g
    · rw [same q g]; exact hR.2.2.1 q hq
    · exact absurd (hA q g) hq
  · have h1 := X.same.trans ((same_un hsame).setVm (ks K).vm)
    rw [List.append_nil] at h1
    exact h1.mono hc hs
theorem traces_off (hK : Jok Γ A K cc nL own hh) (X : Sk Γ K T locs cs ss) : (ke K).platform.stackTraces = false := by
  rw [X.admits.platform]
  exact hK.g.2.2.2.1
theorem AtU.of (X : Sk Γ K T locs cs ss) (hR : Rp Γ A h (ks K).heap T.heap locs) : AtU Γ A K h locs (ft K T) := ⟨X.warmed, hR⟩
/-- the length of no array -/
theorem j_lenNull (hK : Jok Γ A K cc nL own hh) (hQ : Kq Γ A K d mc ms ret Φ) (hd : decode cc pc = .ok (.arraylength, 1)) (hout : ∀ y ∈ tableOf hh, covers y pc = false) (h175 : 175 ≤ d) (hc : cs + 1 ≤ mc) (hs : ss + 8 ≤ ms) (hst : (st.map fun v => v.category).sum ≤ 8) (hq : ∀ h x, P h → h x = none → Φ (.threw x) (pu h x (.inr (15, [])))) : J Γ A K pc ls (.null :: st) P cs ss := fun h H locs arr hP hR hL T hT X => by
  subst hT
  have hkR : kR K = rmD d mc ms := hQ.1
  have Y := stand_rebase X (by rw [hkR]; show cs ≤ mc; omega) (by rw [hkR]; show ss ≤ ms; omega)
  have a := AtU.of X hR
  obtain ⟨U, hstep, hrun, hend, hwU, hsame, cell, hcell, hN⟩ := Y.npeArm hK.x (traces_off hK X) (n := 8) (at_npeArm hK a) (fun x hx => by cases hx) (g := F0 (km K) pc arr st) rfl hL.1 rfl rfl (by rw [hK.ex]; exact hout) (by rw [hkR]; show 7 < d; omega) (by rw [hkR]; show 2 * 0 + (st.map fun v => v.category).sum + 10240 ≤ 60 * d; omega) (by rw [hkR]; show 0 + 1 ≤ mc - cs; omega) (by rw [hkR]; show 0 + 8 ≤ ms - ss; omega) hK.lk
  refine ⟨U, ?_, ?_⟩
  · have hex := hK.x
    have hdg : decode (kc K).code (F0 (km K) pc arr (.null :: st)).pc = .ok (.arraylength, 1) := by rw [hK.b]; exact hd
    jvm_step X.here [hex, hdg, arraylength.wp_sem, nullPointer]
    exact hstep
  · refine arm_end (ci := 15) (cell := cell) hK hQ X hR hrun hend hwU hsame (Nat.le_refl _) hcell hN.vm rfl rfl hN.cls (fun q c hq hcq => ?_) hc hs (hq h _ hP hR.fresh)
    have h1 : U.heap.size ≤ T.heap.size + 1 := hsame.2.2.1
    have h2 := (Array.getElem?_eq_some_iff.mp hcq).1
    have : q = T.heap.size := by omega
    subst this
    rw [hcell] at hcq
    rw [← Option.some.inj hcq, hN.vm]
    rfl
end AE
