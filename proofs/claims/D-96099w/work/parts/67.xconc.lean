/-! the class's world as it is, the tie to the reference left out -/
set_option maxRecDepth 100000
def XC (Γ : Gam) (L : Nat → Nat) (T : TX) (tm : Nat) (x : XD) (h : PH) : Prop := WD (xcs Γ L x tm) L h ∧ XTr (L 35) T x tm h ∧ XK Γ x
section XCR
variable {Γ : Gam} {A : Nat → Prop} {K : JC} {cc : ByteArray} {nL : Nat} {own : String} {hh : List (Nat × Nat × Nat × Nat)} {pc : Nat} {ls : List (Option Value)} {st : List Value} {cs ss d mc ms : Nat} {ret : Option FieldType} {Φ : Outcome → PH → Prop} {L : Nat → Nat} {f : Nat → Int32} {g : Nat → Int32 → Int32} {T : TX} {φ : XD → Prop} {P : PH → Prop} {tm : Nat} {x : XD}
theorem xi_open (k : ∀ x, XR f g x → φ x → J Γ A K pc ls st (XC Γ L T (f 17).toNatClampNeg x) cs ss) : J Γ A K pc ls st (XI Γ L f g T φ) cs ss := fun h H locs arr ⟨x, w, r, t, s, e⟩ hR hL => k x r e h H locs arr ⟨w, t, s⟩ hR hL
theorem xi_close {h : PH} {n : Nat} (w : XC Γ L T n x h) (hn : (f 17).toNatClampNeg = n) (r : XR f g x) (e : φ x) : XI Γ L f g T φ h := by
  subst hn
  exact ⟨x, w.1, r, w.2.1, w.2.2, e⟩
theorem xc_isC (hw : ∀ h, P h → XC Γ L T tm x h) : IsC P (L 35) RX0 := fun h hP => ⟨0, _, _, (hw h hP).1.at xcs_o, rfl, rfl⟩
theorem xc_get {k idx : Nat} {v : Int32} (hK : Jok Γ A K cc nL RX0 hh) (hw : ∀ h, P h → XC Γ L T tm x h) (hk : k < 35) (hy : xar k = false) (hv : x.p k = v) (hlink : Cond.fieldLink RX0 idx RX0 (TX0 k).2.1 (TX0 k).2.2.1 ∈ lw_all) (h1 : (TX0 k).1 = RX0) (hd : decode cc pc = .ok (.getfield idx, 3)) (kk : J Γ A K (pc + 3) ls (.int v :: st) P cs ss) : J Γ A K pc ls (.ref (L 35) :: st) P cs ss :=
  j_get hK (ci := 0) rfl in_X0 hk hlink (fun x h => by rw [h1] at h; exact h) hd (fun h hP => ⟨_, (hw h hP).1.at xcs_o, by rw [xfs_get hk]; simp [xfv, hy]; exact hv⟩) kk
theorem xc_getR {k idx : Nat} (hK : Jok Γ A K cc nL RX0 hh) (hw : ∀ h, P h → XC Γ L T tm x h) (hk : k < 35) (hy : xar k = true) (hlink : Cond.fieldLink RX0 idx RX0 (TX0 k).2.1 (TX0 k).2.2.1 ∈ lw_all) (h1 : (TX0 k).1 = RX0) (hd : decode cc pc = .ok (.getfield idx, 3)) (kk : J Γ A K (pc + 3) ls (.ref (L k) :: st) P cs ss) : J Γ A K pc ls (.ref (L 35) :: st) P cs ss :=
  j_get hK (ci := 0) rfl in_X0 hk hlink (fun x h => by rw [h1] at h; exact h) hd (fun h hP => ⟨_, (hw h hP).1.at xcs_o, by rw [xfs_get hk]; simp [xfv, hy]⟩) kk
theorem xc_put {k idx : Nat} {v : Int32} (hK : Jok Γ A K cc nL RX0 hh) (hk : k < 35) (hy : xar k = false) (hlink : Cond.fieldLink RX0 idx RX0 (TX0 k).2.1 (TX0 k).2.2.1 ∈ lw_all) (h1 : (TX0 k).1 = RX0) (h2 : (TX0 k).2.2.2 = false) (hn : narrow (tyX0 k) (.int v) = .int v) (hf : fits (tyX0 k) (.int v) = true) (hd : decode cc pc = .ok (.putfield idx, 3)) (kk : J Γ A K (pc + 3) ls st (XC Γ L T tm (xpF x k v)) cs ss) : J Γ A K pc ls (.int v :: .ref (L 35) :: st) (XC Γ L T tm x) cs ss :=
  j_put hK (ci := 0) rfl in_X0 tyX0_ok nmX0 hk hlink (fun x h => by rw [h1] at h; exact h) h2 hn hf hd (fun h ⟨w, t, s⟩ => ⟨_, w.at xcs_o, by simp [xfs]; exact hk, by
    rw [xfs_set hy]
    exact ⟨w.put (by rw [xcs_o]; exact fun z => by cases z) xcs_o (fun j hj => xcs_pF hj), t.kept (KN.putO _ (w.at xcs_o) (Or.inl (by decide))) rfl, s⟩⟩) kk
theorem xc_ald {k : Nat} {i v : Int32} (hK : Jok Γ A K cc nL own hh) (hw : ∀ h, P h → XC Γ L T tm x h) (hy : xia k = true) (h16 : k ≠ 16) (hb : vp_in i (xln k)) (hv : x.q k i = v) (hd : decode cc pc = .ok (.iaload, 1)) (kk : J Γ A K (pc + 1) ls (.int v :: st) P cs ss) : J Γ A K pc ls (.int i :: .ref (L k) :: st) P cs ss :=
  j_iald hK hd (fun h hP => ⟨_, _, ((hw h hP).1.at (xcs_a hy)).trans (by rw [if_neg h16]), hb, by rw [nI_cl (fun z => hb (Or.inl z))]; exact hv⟩) kk
theorem xc_bald {i v : Int32} (hK : Jok Γ A K cc nL own hh) (hw : ∀ h, P h → XC Γ L T tm x h) (hb : vp_in i 160) (hv : x.q 16 i = v) (hd : decode cc pc = .ok (.baload, 1)) (kk : J Γ A K (pc + 1) ls (.int v :: st) P cs ss) : J Γ A K pc ls (.int i :: .ref (L 16) :: st) P cs ss :=
  j_bald hK hd (fun h hP => ⟨_, _, (hw h hP).1.at (xcs_a rfl), hb, by rw [nI_cl (fun z => hb (Or.inl z))]; exact hv⟩) kk
theorem xc_ast {k : Nat} {i v : Int32} (hK : Jok Γ A K cc nL own hh) (hy : xia k = true) (h16 : k ≠ 16) (hb : vp_in i (xln k)) (hd : decode cc pc = .ok (.iastore, 1)) (kk : J Γ A K (pc + 1) ls st (XC Γ L T tm (xpA x k i v)) cs ss) : J Γ A K pc ls (.int v :: .int i :: .ref (L k) :: st) (XC Γ L T tm x) cs ss :=
  j_iast hK hd (fun h ⟨w, t, s⟩ => ⟨_, _, fun j => (xpA x k i v).q k (nI j), (w.at (xcs_a hy)).trans (by rw [if_neg h16]), hb, fun j hj => by
    show upd (fun j => x.q k (nI j)) i.toNatClampNeg v j = ug x.q k i v k (nI j)
    unfold upd ug
    by_cases e : j = i.toNatClampNeg
    · rw [if_pos e, if_pos ⟨rfl, (cl_eq hb (xln_lt k) hj).mpr e⟩]
    · rw [if_neg e, if_neg (fun z => e ((cl_eq hb (xln_lt k) hj).mp z.2))], by
    refine ⟨?_, t.kept (KN.putA _ (w.at (xcs_a hy))) rfl, s⟩
    refine w.put (by rw [xcs_a hy]; exact fun z => by cases z) ((xcs_a hy).trans (by rw [if_neg h16])) (fun j hj => xcs_pA ?_ ?_ ?_ ?_ hj) <;> (rintro rfl; cases hy)⟩) kk
theorem xc_bast {i v : Int32} (hK : Jok Γ A K cc nL own hh) (hb : vp_in i 160) (hd : decode cc pc = .ok (.bastore, 1)) (kk : J Γ A K (pc + 1) ls st (XC Γ L T tm (xpA x 16 i v.toInt8.toInt32)) cs ss) : J Γ A K pc ls (.int v :: .int i :: .ref (L 16) :: st) (XC Γ L T tm x) cs ss :=
  j_bast hK hd (fun h ⟨w, t, s⟩ => ⟨_, _, fun j => (xpA x 16 i v.toInt8.toInt32).q 16 (nI j), w.at (xcs_a rfl), hb, fun j hj => by
    show upd (fun j => x.q 16 (nI j)) i.toNatClampNeg _ j = ug x.q 16 i _ 16 (nI j)
    unfold upd ug
    by_cases e : j = i.toNatClampNeg
    · rw [if_pos e, if_pos ⟨rfl, (cl_eq hb (by decide) hj).mpr e⟩]
    · rw [if_neg e, if_neg (fun z => e ((cl_eq hb (by decide) hj).mp z.2))], by
    refine ⟨?_, t.kept (KN.putA _ (w.at (xcs_a (k := 16) rfl))) rfl, s⟩
    exact w.put (k0 := 16) (by rw [xcs_a rfl]; exact fun z => by cases z) (xcs_a rfl) (fun j hj => xcs_pA (by decide) (by decide) (by decide) (by decide) hj)⟩) kk
theorem xc_copy {k k0 idx : Nat} {n : Int32} (hK : Jok Γ A K cc nL own hh) (hQ : Kq Γ A K d mc ms ret Φ) (hk : xia k = true) (hk0 : xia k0 = true) (h16 : k ≠ 16) (h160 : k0 ≠ 16) (hn : n = nI (xln k)) (hn0 : xln k = xln k0) (hlink : Cond.methodLink own idx arraycopyName ∈ lw_all) (hd : decode cc pc = .ok (.invokestatic idx, 3)) (hd1 : 1 ≤ d) (hw : (st.map fun v => v.category).sum + (nativeFrameWords "java/lang/System" "arraycopy" 5 + 11) ≤ 60 * d) (kk : J Γ A K (pc + 3) ls st (XC Γ L T tm (xcpA x k k0)) cs ss) : J Γ A K pc ls (.int n :: .int 0 :: .ref (L k) :: .int 0 :: .ref (L k0) :: st) (XC Γ L T tm x) cs ss := by
  subst hn
  have hl := xln_lt k
  refine j_acopy (t := 0) hK hQ rfl rfl hlink hd (by decide) (by decide) (nI_pos hl) hd1 hw (fun h ⟨w, t, s⟩ => ?_) kk
  have e0 : (0 : Int32).toNatClampNeg = 0 := by decide
  refine ⟨xln k0, xln k, fun j => x.q k0 (nI j), fun j => x.q k (nI j), fun j => x.q k0 (nI j), (w.at (xcs_a hk0)).trans (by rw [if_neg h160]), (w.at (xcs_a hk)).trans (by rw [if_neg h16]), by rw [e0, nI_clamp hl]; omega, by rw [e0, nI_clamp hl]; omega, fun i _ => rfl, fun j hj => ?_, ?_⟩
  · rw [e0, nI_clamp hl]
    unfold va_cpy
    rw [if_pos ⟨by omega, by omega⟩]
    simp
  · refine ⟨?_, t.kept (KN.putA _ (w.at (xcs_a hk))) rfl, s⟩
    refine w.put (by rw [xcs_a hk]; exact fun z => by cases z) ?_ (fun j hj => xcs_cp ?_ ?_ ?_ ?_ hj)
    · rw [xcs_a hk, if_neg h16, xcpA_s]
    all_goals (rintro rfl; cases hk)
theorem xc_irow {i : Nat} {c : Int32} (hK : Jok Γ A K cc nL own hh) (hw : ∀ h, P h → XC Γ L T tm x h) (hi : i < 6) (hc : nI i = c) (hd : decode cc pc = .ok (.aaload, 1)) (kk : J Γ A K (pc + 1) ls (.ref (L (43 + i)) :: st) P cs ss) : J Γ A K pc ls (.int c :: .ref (L 31) :: st) P cs ss :=
  j_aald (t := 7) (v := some (L (43 + i))) hK rfl rfl hd (fun h hP => ⟨_, _, (hw h hP).1.at xcs_i, by rw [← hc]; exact vp_in_nI hi (by decide), by rw [← hc, nI_clamp (by omega)]⟩) kk
theorem xc_brow {b : Nat} {c : Int32} (hK : Jok Γ A K cc nL own hh) (hw : ∀ h, P h → XC Γ L T tm x h) (hb : b < x.nb) (h7 : b < 7) (hc : nI b = c) (hd : decode cc pc = .ok (.aaload, 1)) (kk : J Γ A K (pc + 1) ls (.ref (L (36 + b)) :: st) P cs ss) : J Γ A K pc ls (.int c :: .ref (L 0) :: st) P cs ss :=
  j_aald (t := 3) (v := some (L (36 + b))) hK rfl rfl hd (fun h hP => ⟨_, _, (hw h hP).1.at xcs_b, by rw [← hc]; exact vp_in_nI h7 (by decide), by rw [← hc, nI_clamp (by omega)]; exact if_pos hb⟩) kk
theorem xc_bta {b : Nat} (hw : ∀ h, P h → XC Γ L T tm x h) (hb : b < x.nb) (h7 : b < 7) (hk : (x.q 37 (nI b)).toNatClampNeg ≤ 5) : BtA P (L (36 + b)) (x.q 37 (nI b)).toNatClampNeg (x.q 36 (nI b)) := ⟨hk, fun h hP => (hw h hP).1.at (xcs_bo hb h7)⟩
theorem xc_pnum {b idx : Nat} {v : Int32} {ref : String} (hK : Jok Γ A K cc nL own hh) (hb : b < x.nb) (h7 : b < 7) (hk : (x.q 37 (nI b)).toNatClampNeg ≤ 5) (hlink : Cond.fieldLink own idx ref "number" "I" ∈ lw_all) (hsame : ref = RX9 ∨ Cond.sameField ref RX9 "number" "I" ∈ lw_all) (hd : decode cc pc = .ok (.putfield idx, 3)) (kk : J Γ A K (pc + 3) ls st (XC Γ L T tm (xpA x 36 (nI b) v)) cs ss) : J Γ A K pc ls (.int v :: .ref (L (36 + b)) :: st) (XC Γ L T tm x) cs ss :=
  b_pnum hK (xc_bta (fun _ w => w) hb h7 hk) hlink hsame hd (fun h ⟨w, t, s⟩ => by
    have h1 := w.at (xcs_bo hb h7)
    refine ⟨?_, t.kept (KN.putO _ h1 (Or.inr (by omega))) rfl, s⟩
    refine w.put (by rw [xcs_bo hb h7]; exact fun z => by cases z) ?_ (fun k hk => xcs_pN h7 hk)
    rw [xcs_bo (x := xpA x 36 (nI b) v) hb h7]
    show some (Sum.inr (8 + (ug x.q 36 (nI b) v 37 (nI b)).toNatClampNeg, [Value.int (ug x.q 36 (nI b) v 36 (nI b))])) = _
    rw [ug_s, ug_k _ _ _ (by decide)]) kk
end XCR
