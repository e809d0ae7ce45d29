/-! the machine's own throws with a message; an exception that the class makes itself -/
set_option maxRecDepth 100000
section AM
variable {Γ : Gam} {A : Nat → Prop} {K : JC} {cc : ByteArray} {nL : Nat} {own : String} {hh : List (Nat × Nat × Nat × Nat)} {pc : Nat} {ls : List (Option Value)} {st : List Value} {P P' : PH → Prop} {cs ss d mc ms : Nat} {ret : Option FieldType} {Φ : Outcome → PH → Prop} {h : PH} {locs : List Loc} {T U : State}
theorem arm_msg (hK : Jok Γ A K cc nL own hh) (hQ : Kq Γ A K d mc ms ret Φ) (X : Sk Γ K T locs cs ss) (hR : Rp Γ A h (ks K).heap T.heap locs) {arr : Array Slot} (hL : arr.size = (kc K).maxLocals) {cls text : String} {ci : Nat} {r : vw_C} (hfit : Bundle.fit cls = true) (hsoe : (cls == "java/lang/StackOverflowError") = false) (hoom : (cls == "java/lang/OutOfMemoryError") = false) (hw : ∀ c ∈ Bundle.messageArmAtoms cls ["java/lang/RuntimeException", "java/lang/Exception"], c.before (ka K) (ft K T) = true) (ht : (text == notModelled) = false) (hb : (stringBytes (stringToUtf16 text)).size ≤ 1600) (hci : vwCl[ci]? = some r) (hN : r.2.2 = 0) (hr : r.1 = cls) (hout : ∀ y ∈ tableOf hh, covers y pc = false) (h175 : 175 ≤ d) (hc : cs + 3 ≤ mc) (hs : ss + 1610 ≤ ms) (hst : (st.map fun v => v.category).sum ≤ 8) (hq : ∀ x, h x = none → Φ (.threw x) (pu h x (.inr (ci, [])))) : ∃ U, Steps (kp K).tables (ke K) (kb K) ((T.setTop (F0 (km K) pc arr st)).pushFrame (.throwNew cls (some text) none)) U ∧ kQ K U := by
  have hkR : kR K = rmD d mc ms := hQ.1
  have Y := stand_rebase X (by rw [hkR]; show cs ≤ mc; omega) (by rw [hkR]; show ss ≤ ms; omega)
  obtain ⟨U, hstep, hrun, hend, hwU, ⟨n, hn, hsame⟩, cb, cst, ce, hcb, hcs, hce, hB, hS, hE⟩ := Y.messageArmCells hK.x (traces_off hK X) (cls := cls) (names := ["java/lang/RuntimeException", "java/lang/Exception"]) (text := text) hfit (by decide) hsoe hoom hw (fun x hx => by cases hx) ht (by rw [Launch.admits_arrayLengthLimit X.admits]; omega) (by rw [Launch.admits_maxHeapBytes X.admits]; show ¬ _ * 1 > 536870912; omega) (g := F0 (km K) pc arr st) rfl hL rfl rfl (by rw [hK.ex]; exact hout) (by rw [hkR]; show 2 + 4 < d; omega) (by rw [hkR]; show 2 * 0 + (st.map fun v => v.category).sum + 10240 ≤ 60 * d; omega) (by decide) (by rw [hkR]; show 0 + 3 ≤ mc - cs; omega) (by rw [hkR]; show 0 + (_ + 4 + 6) ≤ ms - ss; omega) hK.lk
  refine ⟨U, hstep, ?_⟩
  have hsz : U.heap.size ≤ T.heap.size + 3 := hsame.2.2.1
  have hfr : h (T.heap.size + 2) = none := by
    cases e : h (T.heap.size + 2) with
    | none => rfl
    | some y =>
      have := (hR.1 _ y e).1.lt
      omega
  refine arm_end (ci := ci) (cell := ce) (c2 := 3) (n2 := n) hK hQ X hR hrun hend hwU hsame (by omega) hce hE.vm hci hN (by rw [hr]; exact hE.cls) (fun q c hq hcq => ?_) hc (by omega) (hq _ hfr)
  have h2 := (Array.getElem?_eq_some_iff.mp hcq).1
  have : q = T.heap.size ∨ q = T.heap.size + 1 ∨ q = T.heap.size + 2 := by omega
  rcases this with rfl | rfl | rfl
  · rw [hcb] at hcq; rw [← Option.some.inj hcq, hB.vm]; rfl
  · rw [hcs] at hcq; rw [← Option.some.inj hcq, hS.vm]; rfl
  · rw [hce] at hcq; rw [← Option.some.inj hcq, hE.vm]; rfl
/-- an array of a negative size -/
theorem j_newaNeg {n : Int32} {atype : ArrayType} (hK : Jok Γ A K cc nL own hh) (hQ : Kq Γ A K d mc ms ret Φ) (hn : n < 0) (hd : decode cc pc = .ok (.newarray atype, 2)) (hout : ∀ y ∈ tableOf hh, covers y pc = false) (h175 : 175 ≤ d) (hc : cs + 3 ≤ mc) (hs : ss + 1610 ≤ ms) (hst : (st.map fun v => v.category).sum ≤ 8) (hq : ∀ h x, P h → h x = none → Φ (.threw x) (pu h x (.inr (17, [])))) : J Γ A K pc ls (.int n :: st) P cs ss := fun h H locs arr hP hR hL T hT X => by
  subst hT
  obtain ⟨U, a1, b1⟩ := arm_msg (st := st) (pc := pc) (ci := 17) (cls := RJ11) (text := toString n) hK hQ X hR hL.1 (by decide) (by decide) (by decide) (at_nase hK (AtU.of X hR)) (negative_text_modelled hn) (Nat.le_trans (negative_text_bytes n) (by decide)) rfl rfl rfl hout h175 hc hs hst (fun x hx => hq h x hP hx)
  exact ⟨U, X.newarrayNegative hK.x (g := F0 (km K) pc arr (.int n :: st)) rfl hn rfl (by rw [hK.b]; exact hd) U a1, b1⟩
/-- the class makes an IndexOutOfBoundsException and throws it -/
theorem j_throwIdx (hK : Jok Γ A K cc nL RX0 hh) (hQ : Kq Γ A K d mc ms ret Φ) (hd0 : decode cc pc = .ok (.new 478, 3)) (hd1 : decode cc (pc + 3) = .ok (.dup, 1)) (hd2 : decode cc (pc + 3 + 1) = .ok (.invokespecial 480, 3)) (hd3 : decode cc (pc + 3 + 1 + 3) = .ok (.athrow, 1)) (hout : ∀ y ∈ tableOf hh, covers y (pc + 3 + 1 + 3) = false) (h6 : 6 ≤ d) (hc : cs + 1 ≤ mc) (hs : ss + 6 ≤ ms) (hst : (st.map fun v => v.category).sum ≤ 8) (hq : ∀ h x, P h → h x = none → Φ (.threw x) (pu h x (.inr (18, [])))) : J Γ A K pc ls st P cs ss := fun h H locs arr hP hR hL T hT X => by
  subst hT
  have hkR : kR K = rmD d mc ms := hQ.1
  have Y := stand_rebase X (by rw [hkR]; show cs ≤ mc; omega) (by rw [hkR]; show ss ≤ ms; omega)
  have a := AtU.of X hR
  have hown : (ft K T).vm.findClass RX0 = some (km K).cls := by
    show T.vm.findClass RX0 = _
    rw [X.warmed.alike.findClass]
    exact hK.own
  obtain ⟨cX, k0, hfc, -⟩ := Cond.instantiable_spec (a.w (B := ka K) hK q983)
  have w : W (kp K) (gl Γ) (ke K) (rbR (kR K) cs ss) (ft K T) (km K) (ka K) (kb K) (kt K) (kc K) T.heap [] 0 0 (kQ K) (F0 (km K) pc arr st) := by
    refine W.newcK hK.x hK.b hown (a.w hK q982) (a.w hK q983) (a.w hK q96) rfl hd0 (by rw [hkR]; show 0 + 1 ≤ mc - cs; omega) (by rw [hkR]; show 0 + 6 ≤ ms - ss; omega) hfc rfl fun H' kC hkC e1 z o => ?_
    refine lv_dup hK.x hK.b hd1 rfl ?_
    intro T1 hT1 Y1
    subst hT1
    obtain ⟨U, hstep, hrun, hend, hwU, hsame, ce, hce, hO⟩ := Y1.ctorThrow0 hK.x (traces_off hK X) (own := RX0) (cls := RJ10) (names := ["java/lang/RuntimeException", "java/lang/Exception"]) (ic := 480) hown (by decide) (by decide) (at_own0 hK a) (fun x hx => by cases hx) hfc hkC e1 (Nat.le_refl _) (g := F0 (km K) (pc + 3 + 1) arr (.ref T.heap.size :: .ref T.heap.size :: st)) rfl hL.1 rfl rfl rfl (by rw [hK.b]; exact hd2) (by rw [hK.b]; exact hd3) (by rw [hK.ex]; exact hout) (by rw [hkR]; show 2 + 3 < d; omega) (by rw [hkR]; show 2 * 0 + (1 + (st.map fun v => v.category).sum) + (13 * (2 + 1) + 41) ≤ 60 * d; omega) hK.lk
    refine ⟨U, hstep, ?_⟩
    refine arm_end (ci := 18) (cell := ce) hK hQ X hR hrun hend hwU hsame (Nat.le_refl _) hce hO.vm rfl rfl hO.cls (fun q c hq hcq => ?_) hc hs (hq h _ hP hR.fresh)
    have h1 : U.heap.size ≤ T.heap.size + (0 + 1) := hsame.2.2.1
    have h2 := (Array.getElem?_eq_some_iff.mp hcq).1
    have : q = T.heap.size := by omega
    subst this
    rw [hce] at hcq
    rw [← Option.some.inj hcq, hO.vm]
    rfl
  exact w T rfl Y
end AM
