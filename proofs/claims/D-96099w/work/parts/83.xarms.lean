/-! the words of the machine's own throws, at a state of the walk; the walk's foot set anew -/
set_option maxRecDepth 100000
section RB
variable {p : Program} {l : Launch} {e : Env} {R : Room} {s : State} {m : MethodId} {args : Array Value} {below : List Frame} {meth : Method} {c : Code} {T : State} {locs : List Loc} {cells slots : Nat}
def rbR (R : Room) (cells slots : Nat) : Room := { frames := R.frames, cells := R.cells - cells, slots := R.slots - slots, locals := R.locals }
theorem stand_rebase (X : Stand p l e R s m args below meth c T locs cells slots) (hc : cells ≤ R.cells) (hs : slots ≤ R.slots) : Stand p l e (rbR R cells slots) (T.setFrames (.invoking m args :: below)) m args below meth c T [] 0 0 := by
  obtain ⟨g0, hg⟩ := Option.isSome_iff_exists.mp X.here.top
  obtain ⟨r, hrr⟩ := State.topJava?_eq_some.mp hg
  have hcur : T.cur < T.threads.size := State.cur_lt_of_frames hrr
  have hF : (T.setFrames (.invoking m args :: below)).frames = .invoking m args :: below := State.frames_setFrames _ hcur
  have hal := X.warmed.alike
  obtain ⟨t, ht, -⟩ := State.frames_cons hF
  have hself : T.setFrames T.frames = T := by
    obtain ⟨t, ht, -⟩ := State.frames_cons hrr
    exact State.setFrames_self ht
  have hme : ∀ mm, (T.setFrames (.invoking m args :: below)).vm.method? mm = s.vm.method? mm := fun mm => hal.method? mm
  refine ⟨X.admits, X.cas, X.clock, hF, ?_, ?_, X.method', X.code, X.here, X.tail, State.WarmedH.refl _, (State.stackLimits_setFrames _ _ _).symm, (State.stackBytes_setFrames _ _).symm, ?_⟩
  · have h := X.room
    have hb := X.book
    have h1 := X.heapSize
    have h2 := X.used
    simp only [State.hasRoom, Bool.and_eq_true, decide_eq_true_eq] at h ⊢
    have e1 : (T.setFrames (.invoking m args :: below)).localsInUse = s.localsInUse := by
      unfold State.localsInUse
      rw [hF, X.frames]
      simp only [hme]
    have e2 : e.platform.stackLimits (T.setFrames (.invoking m args :: below)).me = e.platform.stackLimits s.me := by rw [State.stackLimits_setFrames]; exact X.limits
    have e3 : (T.setFrames (.invoking m args :: below)).me.stackBytes = s.me.stackBytes := by rw [State.stackBytes_setFrames]; exact X.bytes
    rw [e1, e2, e3, hF]
    rw [X.frames] at h
    obtain ⟨⟨⟨⟨a1, a2⟩, a3⟩, a4⟩, a5⟩ := h
    refine ⟨⟨⟨⟨a1, a2⟩, ?_⟩, ?_⟩, hb⟩
    · show T.heap.size + (R.cells - cells) ≤ _
      omega
    · show T.slotsUsed + (R.slots - slots) ≤ _
      omega
  · have h := X.hears
    unfold State.hears at h ⊢
    simp only [State.code?_eq, hme] at h ⊢
    exact h
  · have h := (State.sameButNew.refl (T.setFrames (.invoking m args :: below)) ht).setFrames T.frames (State.cur_lt_of_frames hF)
    rw [State.setFrames_setFrames, hself] at h
    exact h
end RB
theorem fa_nil {α : Type} {P : α → Prop} : ∀ a ∈ ([] : List α), P a := fun a h => by cases h
theorem fa_c {α : Type} {P : α → Prop} {x : α} {l : List α} (h : P x) (t : ∀ a ∈ l, P a) : ∀ a ∈ x :: l, P a := fun a ha => by
  rcases List.mem_cons.mp ha with e | e
  · rw [e]; exact h
  · exact t a e
theorem fa_a {α : Type} {P : α → Prop} {l1 l2 : List α} (h : ∀ a ∈ l1, P a) (t : ∀ a ∈ l2, P a) : ∀ a ∈ l1 ++ l2, P a := fun a ha => by
  rcases List.mem_append.mp ha with e | e
  · exact h a e
  · exact t a e
section AR
variable {Γ : Gam} {A : Nat → Prop} {K : JC} {cc : ByteArray} {nL : Nat} {own : String} {hh : List (Nat × Nat × Nat × Nat)} {h : PH} {H : Heap} {locs : List Loc} {U : State} {B : Array Value}
/-- a state at which the words stand: its tables are warmer, its heap is the walk's -/
def AtU (Γ : Gam) (A : Nat → Prop) (K : JC) (h : PH) (locs : List Loc) (U : State) : Prop := (ks K).WarmedH U.vm ∧ Rp Γ A h (ks K).heap U.heap locs
theorem AtU.w (hK : Jok Γ A K cc nL own hh) (a : AtU Γ A K h locs U) {w : Cond} (hw : w ∈ lw_all) : w.before B U = true := pay_in hK.ts (lw_meth q387) w (List.mem_cons_of_mem _ hw) B U a.1
theorem AtU.warm (hK : Jok Γ A K cc nL own hh) (a : AtU Γ A K h locs U) : (gs Γ).WarmedH U.vm := State.WarmedH.trans hK.warm a.1
theorem AtU.c (hK : Jok Γ A K cc nL own hh) (a : AtU Γ A K h locs U) {C E : String} (hw : Cond.castable C E ∈ lw_tbl) : (Cond.castable C E).before B U = true := va_Nw.use rfl (va_Nw.warmC (a.warm hK) (va_Nw.of rfl (hK.g.1 _ hw)))
theorem AtU.d (hK : Jok Γ A K cc nL own hh) (a : AtU Γ A K h locs U) {x : MethodName} (hw : Cond.declares x ∈ lw_tbl) : (Cond.declares x).before B U = true := va_Nw.use rfl (va_Nw.warmD (a.warm hK) (va_Nw.of rfl (hK.g.1 _ hw)))
theorem AtU.at (hK : Jok Γ A K cc nL own hh) (a : AtU Γ A K h locs U) {C n d : String} (hw : Cond.laysStatic C n d ∈ lw_tbl) : ∃ c k k' i f q cell, (gs Γ).fieldFound? C n d = some (c, k, i, f) ∧ U.vm.findClass C = some c ∧ U.fieldFound? C n d = some (c, k', i, f) ∧ f.isStatic = true ∧ k.statics = some q ∧ k'.statics = some q ∧ (gs Γ).heap[q]? = some cell ∧ U.heap[q]? = some cell ∧ cell.vm.isStatics = true ∧ cell.cls = c ∧ f.slot < cell.slots.size ∧ k'.staticTypes[f.slot]? = some f.type := by
  obtain ⟨c, k, i, f, q, cell, h1, h2, h3, h4, h5, h6, h7, h8, h9⟩ := Cond.laysStatic_spec (hK.g.1 _ hw)
  obtain ⟨k', hk', he⟩ := State.fieldFound?_setVm (a.warm hK).alike h2
  exact ⟨c, k, k', i, f, q, cell, h2, by rw [(a.warm hK).alike.findClass]; exact h1, hk', h3, h4, by rw [he]; exact h4, h5, hK.low a.2 h5, h6, h7, h8, by rw [he]; exact h9⟩
theorem AtU.s (hK : Jok Γ A K cc nL own hh) (a : AtU Γ A K h locs U) {C n d : String} (hw : Cond.laysStatic C n d ∈ lw_tbl) : (Cond.laysStatic C n d).before B U = true := by
  obtain ⟨c, k, k', i, f, q, cell, -, h1, h2, h3, -, h4, -, h5, h6, h7, h8, h9⟩ := a.at hK hw
  simp [Cond.before, Cond.holds, Cond.value, h1, h2, h3, h4, h5, h6, h7, h8, h9]
theorem AtU.r (hK : Jok Γ A K cc nL own hh) (a : AtU Γ A K h locs U) {C n d : String} (hw : Cond.laysStatic C n d ∈ lw_tbl) (hr : (Cond.isRef (.static C n d)).before #[Value.ref (gb Γ)] (gs Γ) = true) : (Cond.isRef (.static C n d)).before B U = true := by
  obtain ⟨c, k, k', i, f, q, cell, e0, h1, h2, h3, e4, h4, e5, h5, h6, h7, h8, h9⟩ := a.at hK hw
  have x1 : (Term.static C n d).eval #[Value.ref (gb Γ)] (gs Γ) none [] (gs Γ) = cell.slots[f.slot]? := by simp [Term.eval, State.fieldNamed?, e0, h3, e4, e5, h6]
  have x2 : (Term.static C n d).eval B U none [] U = cell.slots[f.slot]? := by simp [Term.eval, State.fieldNamed?, h2, h3, h4, h5, h6]
  simp only [Cond.before, Cond.holds, Cond.value] at hr ⊢
  rw [x1] at hr
  rw [x2]
  exact hr
theorem at_thr (hK : Jok Γ A K cc nL own hh) (a : AtU Γ A K h locs U) : ∀ c ∈ Bundle.throwableAtoms, c.before B U = true := (fa_c (a.w hK q71) (fa_c (a.w hK q652) (fa_c (a.w hK q661) (fa_c (a.w hK q681) (fa_c (a.w hK q684) (fa_c (a.w hK q686) (fa_c (a.w hK q653) (fa_c (a.w hK q654) (fa_c (a.w hK q126) (fa_c (a.w hK q127) (fa_c (a.w hK q655) (fa_c (a.w hK q660) (fa_c (a.w hK q682) (fa_c (a.w hK q701) (fa_c (a.w hK q642) (fa_c (a.w hK q702) (fa_c (a.w hK q644) (fa_c (a.w hK q703) (fa_c (a.w hK q646) (fa_c (a.w hK q656) (fa_c (a.s hK q657) (fa_c (a.w hK q658) (fa_c (a.s hK q659) (fa_c (a.w hK q648) fa_nil))))))))))))))))))))))))
theorem at_npe (hK : Jok Γ A K cc nL own hh) (a : AtU Γ A K h locs U) : ∀ c ∈ Bundle.npeAtoms, c.before B U = true := (fa_c (a.w hK q678) (fa_c (a.w hK q668) (fa_c (a.w hK q669) (fa_c (a.w hK q1084) (fa_c (a.w hK q1086) (fa_c (a.w hK q675) (fa_c (a.w hK q676) (fa_c (a.c hK q1098) fa_nil))))))))
theorem at_p1 (hK : Jok Γ A K cc nL own hh) (a : AtU Γ A K h locs U) : ∀ c ∈ Bundle.passAtoms "java/lang/NullPointerException" "java/lang/RuntimeException" 1 LibCode.NullPointerException.Init0.code, c.before B U = true := (fa_c (a.w hK q1081) (fa_c (a.w hK q1082) (fa_c (a.w hK q1083) (fa_c (a.w hK q995) (fa_c (a.d hK q633) fa_nil)))))
theorem at_p2 (hK : Jok Γ A K cc nL own hh) (a : AtU Γ A K h locs U) : ∀ c ∈ Bundle.passAtoms "java/lang/RuntimeException" "java/lang/Exception" 1 LibCode.RuntimeException.Init0.code, c.before B U = true := (fa_c (a.w hK q995) (fa_c (a.w hK q996) (fa_c (a.w hK q997) (fa_c (a.w hK q998) (fa_c (a.d hK q635) fa_nil)))))
theorem at_p3 (hK : Jok Γ A K cc nL own hh) (a : AtU Γ A K h locs U) : ∀ c ∈ Bundle.passAtoms "java/lang/Exception" "java/lang/Throwable" 1 LibCode.Exception.Init0.code, c.before B U = true := (fa_c (a.w hK q998) (fa_c (a.w hK q999) (fa_c (a.w hK q1000) (fa_c (a.w hK q653) (fa_c (a.d hK q637) fa_nil)))))
theorem at_npeArm (hK : Jok Γ A K cc nL own hh) (a : AtU Γ A K h locs U) : ∀ c ∈ Bundle.npeArmAtoms 8, c.before B U = true := fa_a (fa_a (fa_a (fa_a (fa_a (at_thr hK a) (at_npe hK a)) (at_p1 hK a)) (at_p2 hK a)) (at_p3 hK a)) (fa_c (a.w hK q98) (fa_c (a.w hK q673) (fa_c (a.c hK q1096) (fa_c (a.w hK q1097) (fa_c (a.w hK q667) (fa_c (a.w hK q1092) (fa_c (a.w hK q1093) (fa_c (a.w hK q1095) (fa_c (a.r hK q657 (nw_ref1 hK.g)) (fa_c (a.r hK q659 (nw_ref2 hK.g)) (fa_c (a.w hK q699) (fa_c (a.w hK q650) (fa_c (a.w hK q1090) fa_nil)))))))))))))
theorem at_own0 (hK : Jok Γ A K cc nL own hh) (a : AtU Γ A K h locs U) : ∀ c ∈ Bundle.ownAtoms0 RX0 480 RJ10 ["java/lang/RuntimeException", "java/lang/Exception"], c.before B U = true := fa_a (fa_a (at_thr hK a) (fa_a (fa_c (a.w hK q992) (fa_c (a.w hK q993) (fa_c (a.w hK q994) (fa_c (a.w hK q995) (fa_c (a.d hK q633) fa_nil))))) (fa_a (fa_c (a.w hK q995) (fa_c (a.w hK q996) (fa_c (a.w hK q997) (fa_c (a.w hK q998) (fa_c (a.d hK q635) fa_nil))))) (fa_c (a.w hK q998) (fa_c (a.w hK q999) (fa_c (a.w hK q1000) (fa_c (a.w hK q653) (fa_c (a.d hK q637) fa_nil)))))))) (fa_c (a.w hK q991) (fa_c (a.w hK q983) (fa_c (a.c hK q984) (fa_c (a.w hK q985) (fa_c (a.w hK q665) (fa_c (a.w hK q986) (fa_c (a.w hK q987) (fa_c (a.w hK q988) (fa_c (a.w hK q989) (fa_c (a.r hK q657 (nw_ref1 hK.g)) (fa_c (a.r hK q659 (nw_ref2 hK.g)) (fa_c (a.w hK q699) (fa_c (a.w hK q650) (fa_c (a.w hK q990) fa_nil))))))))))))))
theorem at_thrS (hK : Jok Γ A K cc nL own hh) (a : AtU Γ A K h locs U) : ∀ c ∈ Bundle.throwableSAtoms, c.before B U = true := (fa_c (a.w hK q1054) (fa_c (a.w hK q1055) (fa_c (a.w hK q700) (fa_c (a.w hK q648) fa_nil))))
theorem at_nase (hK : Jok Γ A K cc nL own hh) (a : AtU Γ A K h locs U) : ∀ c ∈ Bundle.messageArmAtoms RJ11 ["java/lang/RuntimeException", "java/lang/Exception"], c.before B U = true := fa_a (fa_a (fa_a (fa_a (at_thr hK a) (at_thrS hK a)) (fa_a (fa_c (a.w hK q1045) (fa_c (a.w hK q1046) (fa_c (a.w hK q1047) (fa_c (a.w hK q1048) (fa_c (a.d hK q634) fa_nil))))) (fa_a (fa_c (a.w hK q1048) (fa_c (a.w hK q1049) (fa_c (a.w hK q1050) (fa_c (a.w hK q1051) (fa_c (a.d hK q636) fa_nil))))) (fa_c (a.w hK q1051) (fa_c (a.w hK q1052) (fa_c (a.w hK q1053) (fa_c (a.w hK q1054) (fa_c (a.d hK q638) fa_nil)))))))) (fa_c (a.w hK q76) (fa_c (a.w hK q1065) (fa_c (a.w hK q569) (fa_c (a.w hK q1066) (fa_c (a.w hK q1068) (fa_c (a.w hK q1067) (fa_c (a.w hK q1069) fa_nil)))))))) (fa_c (a.w hK q97) (fa_c (a.w hK q1044) (fa_c (a.c hK q1063) (fa_c (a.w hK q1064) (fa_c (a.w hK q666) (fa_c (a.w hK q1058) (fa_c (a.w hK q1059) (fa_c (a.w hK q1061) (fa_c (a.w hK q1057) (fa_c (a.r hK q657 (nw_ref1 hK.g)) (fa_c (a.r hK q659 (nw_ref2 hK.g)) (fa_c (a.w hK q699) (fa_c (a.w hK q650) (fa_c (a.w hK q1056) fa_nil))))))))))))))
theorem at_cce (hK : Jok Γ A K cc nL own hh) (a : AtU Γ A K h locs U) : ∀ c ∈ Bundle.messageArmAtoms RJ14 ["java/lang/RuntimeException", "java/lang/Exception"], c.before B U = true := fa_a (fa_a (fa_a (fa_a (at_thr hK a) (at_thrS hK a)) (fa_a (fa_c (a.w hK q1130) (fa_c (a.w hK q1131) (fa_c (a.w hK q1132) (fa_c (a.w hK q1048) (fa_c (a.d hK q634) fa_nil))))) (fa_a (fa_c (a.w hK q1048) (fa_c (a.w hK q1049) (fa_c (a.w hK q1050) (fa_c (a.w hK q1051) (fa_c (a.d hK q636) fa_nil))))) (fa_c (a.w hK q1051) (fa_c (a.w hK q1052) (fa_c (a.w hK q1053) (fa_c (a.w hK q1054) (fa_c (a.d hK q638) fa_nil)))))))) (fa_c (a.w hK q76) (fa_c (a.w hK q1065) (fa_c (a.w hK q569) (fa_c (a.w hK q1066) (fa_c (a.w hK q1068) (fa_c (a.w hK q1067) (fa_c (a.w hK q1069) fa_nil)))))))) (fa_c (a.w hK q100) (fa_c (a.w hK q1129) (fa_c (a.c hK q1140) (fa_c (a.w hK q1141) (fa_c (a.w hK q664) (fa_c (a.w hK q1135) (fa_c (a.w hK q1136) (fa_c (a.w hK q1138) (fa_c (a.w hK q1134) (fa_c (a.r hK q657 (nw_ref1 hK.g)) (fa_c (a.r hK q659 (nw_ref2 hK.g)) (fa_c (a.w hK q699) (fa_c (a.w hK q650) (fa_c (a.w hK q1133) fa_nil))))))))))))))
end AR
