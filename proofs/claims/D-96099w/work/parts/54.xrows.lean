/-! rows over the class's world -/
set_option maxRecDepth 100000
theorem xfs_get {L : Nat → Nat} {p : Nat → Int32} {k : Nat} (hk : k < 35) : (xfs L p)[k]? = some (xfv L p k) := by
  simp [xfs, hk]
theorem xfs_set {L : Nat → Nat} {p : Nat → Int32} {k : Nat} {v : Int32} (hk : xar k = false) : (xfs L p).set k (.int v) = xfs L (upd p k v) := by
  apply List.ext_getElem?
  intro j
  rw [List.getElem?_set]
  by_cases e : k = j
  · subst e
    rw [if_pos rfl]
    by_cases h : k < 35
    · rw [if_pos (by simp [xfs]; exact h), xfs_get h]
      simp [xfv, hk, upd]
    · rw [if_neg (by simp [xfs]; omega), List.getElem?_eq_none (by simp [xfs]; omega)]
  · rw [if_neg e]
    by_cases h : j < 35
    · rw [xfs_get h, xfs_get h]
      unfold xfv upd
      rw [if_neg (show ¬ j = k from fun z => e z.symm)]
    · rw [List.getElem?_eq_none (by simp [xfs]; omega), List.getElem?_eq_none (by simp [xfs]; omega)]
section XCS
variable {Γ : Gam} {L : Nat → Nat} {x : XD} {tm : Nat}
theorem xcs_a {k : Nat} (hk : xia k = true) : xcs Γ L x tm k = some (.inl (if k = 16 then gA Γ 1 else gA Γ 0, xln k, .inl fun j => x.q k (nI j))) := if_pos hk
theorem xcs_o : xcs Γ L x tm 35 = some (.inr (0, xfs L x.p)) := rfl
theorem xcs_b : xcs Γ L x tm 0 = some (.inl (gA Γ 3, 7, rfA fun b => if b < x.nb then some (L (36 + b)) else none)) := rfl
theorem xcs_f : xcs Γ L x tm 10 = some (.inr (1, x.fv)) := rfl
theorem xcs_t : xcs Γ L x tm 12 = some (.inl (gA Γ 5, 6, rfA fun t => if t < tm then some (L (57 + t)) else none)) := rfl
theorem xcs_k : xcs Γ L x tm 14 = some (.inl (gA Γ 6, 6, rfA fun i => some (x.ks i))) := rfl
theorem xcs_n : xcs Γ L x tm 15 = some (.inl (gA Γ 6, 6, rfA fun i => some (x.ns i))) := rfl
theorem xcs_i : xcs Γ L x tm 31 = some (.inl (gA Γ 7, 6, rfA fun i => some (L (43 + i)))) := rfl
theorem xcs_s : xcs Γ L x tm 34 = some (.inl (gA Γ 8, 4, rfA fun s => some (L (49 + s)))) := rfl
theorem n7 {b : Nat} (h : b < 7) : b = 0 ∨ b = 1 ∨ b = 2 ∨ b = 3 ∨ b = 4 ∨ b = 5 ∨ b = 6 := by omega
theorem n4 {b : Nat} (h : b < 4) : b = 0 ∨ b = 1 ∨ b = 2 ∨ b = 3 := by omega
theorem n6 {b : Nat} (h : b < 6) : b = 0 ∨ b = 1 ∨ b = 2 ∨ b = 3 ∨ b = 4 ∨ b = 5 := by omega
theorem xcs_bo {b : Nat} (hb : b < x.nb) (h7 : b < 7) : xcs Γ L x tm (36 + b) = some (.inr (8 + (x.q 37 (nI b)).toNatClampNeg, [.int (x.q 36 (nI b))])) := by
  have h1 : xia (36 + b) = false := by rcases n7 h7 with rfl | rfl | rfl | rfl | rfl | rfl | rfl <;> rfl
  unfold xcs
  rw [if_neg (by rw [h1]; decide), if_neg (by omega), if_neg (by omega), if_neg (by omega), if_neg (by omega), if_neg (by omega), if_neg (by omega), if_neg (by omega), if_neg (by omega), if_pos ⟨by omega, by omega, by omega⟩, show 36 + b - 36 = b by omega]
theorem xcs_sh {s : Nat} (hs : s < 4) : xcs Γ L x tm (49 + s) = some (.inr (2, [if x.q 38 (nI s) = -1 then .null else .ref (L (53 + s))])) := by
  have h1 : xia (49 + s) = false := by rcases n4 hs with rfl | rfl | rfl | rfl <;> rfl
  unfold xcs
  rw [if_neg (by rw [h1]; decide), if_neg (by omega), if_neg (by omega), if_neg (by omega), if_neg (by omega), if_neg (by omega), if_neg (by omega), if_neg (by omega), if_neg (by omega), if_neg (by omega), if_pos ⟨by omega, by omega⟩, show 49 + s - 49 = s by omega]
theorem xcs_row {s : Nat} (hs : s < 4) (h : ¬ x.q 38 (nI s) = -1) : xcs Γ L x tm (53 + s) = some (.inl (gA Γ (srt (x.q 38 (nI s))), (x.q 39 (nI s)).toNatClampNeg, .inl fun j => x.q (53 + s) (nI j))) := by
  have h1 : xia (53 + s) = false := by rcases n4 hs with rfl | rfl | rfl | rfl <;> rfl
  unfold xcs
  rw [if_neg (by rw [h1]; decide), if_neg (by omega), if_neg (by omega), if_neg (by omega), if_neg (by omega), if_neg (by omega), if_neg (by omega), if_neg (by omega), if_neg (by omega), if_neg (by omega), if_neg (by omega), show 53 + s - 53 = s by omega, if_pos ⟨by omega, by omega, h⟩]
theorem xcs_tx {t : Nat} (ht : t < tm) (h6 : t < 6) : xcs Γ L x tm (57 + t) = some (.inl (gA Γ 4, 3, rfA fun w => some (x.r t w))) := by
  have h1 : xia (57 + t) = false := by rcases n6 h6 with rfl | rfl | rfl | rfl | rfl | rfl <;> rfl
  unfold xcs
  rw [if_neg (by rw [h1]; decide), if_neg (by omega), if_neg (by omega), if_neg (by omega), if_neg (by omega), if_neg (by omega), if_neg (by omega), if_neg (by omega), if_neg (by omega), if_neg (by omega), if_neg (by omega), if_neg (by omega), if_pos ⟨by omega, by omega, by omega⟩, show 57 + t - 57 = t by omega]
theorem xcs_pF {k k' : Nat} {v : Int32} (h : k' ≠ 35) : xcs Γ L (xpF x k v) tm k' = xcs Γ L x tm k' := by
  unfold xcs
  rw [if_neg h, if_neg h]
  rfl
theorem xpA_q {k m : Nat} {i v : Int32} (h : m ≠ k) : (xpA x k i v).q m = x.q m := funext fun j => ug_k x.q i v h j
/-- what lies under other names is kept where one row changes -/
theorem xcs_pA {k k' : Nat} {i v : Int32} (h36 : k ≠ 36) (h37 : k ≠ 37) (h38 : k ≠ 38) (h39 : k ≠ 39) (h : k' ≠ k) : xcs Γ L (xpA x k i v) tm k' = xcs Γ L x tm k' := by
  unfold xcs
  rw [xpA_q h, xpA_q h36.symm, xpA_q h37.symm, xpA_q h38.symm, xpA_q h39.symm]
  rfl
end XCS
theorem xfd_in {k : Nat} (h : xfd k = true) : k = 6 ∨ k = 8 ∨ k = 9 ∨ k = 13 ∨ k = 17 ∨ k = 24 ∨ k = 30 := by
  unfold xfd at h
  split at h <;> first | decide | cases h
theorem xgd_in {k : Nat} (h : xgd k = true) : k = 1 ∨ k = 2 ∨ k = 3 ∨ k = 4 ∨ k = 5 ∨ k = 36 ∨ k = 37 := by
  unfold xgd at h
  split at h <;> first | decide | cases h
theorem clp_le {x : Int32} {n : Nat} (h : x ≤ nI n) (hn : n < 2 ^ 31) (h0 : 0 ≤ x) : x.toNatClampNeg ≤ n := by
  obtain ⟨j, hj, rfl⟩ := nI_of (Int32.not_lt.mpr h0)
  rw [nI_clamp hj]
  exact (nI_leI hj hn).mp h
section XRW
variable {Γ : Gam} {A : Nat → Prop} {K : JC} {cc : ByteArray} {nL : Nat} {own : String} {hh : List (Nat × Nat × Nat × Nat)} {pc : Nat} {ls : List (Option Value)} {st : List Value} {cs ss d mc ms : Nat} {ret : Option FieldType} {Φ : Outcome → PH → Prop} {L : Nat → Nat} {f f' : Nat → Int32} {g g' : Nat → Int32 → Int32} {T : TX} {φ φ' : XD → Prop} {P : PH → Prop}
theorem XTr.kept {o : Nat} {x x' : XD} {tm : Nat} {h h' : PH} (k : KN h h') (e : x'.r = x.r) (w : XTr o T x tm h) : XTr o T x' tm h' := ⟨w.1, fun t ht i hi => NT.kept k _ _ _ _ (by rw [e]; exact w.2 t ht i hi)⟩
theorem xi_mono (h : ∀ x, φ x → φ' x) : ∀ h', XI Γ L f g T φ h' → XI Γ L f g T φ' h' := fun h' ⟨x, w, r, t, s, e⟩ => ⟨x, w, r, t, s, h x e⟩
theorem xi_isC (hw : ∀ h, P h → XI Γ L f g T φ h) : IsC P (L 35) RX0 := fun h hP => by
  obtain ⟨x, w, _⟩ := hw h hP
  exact ⟨0, _, _, w.at xcs_o, rfl, rfl⟩
theorem xi_get {k idx : Nat} {v : Int32} (hK : Jok Γ A K cc nL RX0 hh) (hw : ∀ h, P h → XI Γ L f g T φ h) (hk : k < 35) (hy : xar k = false) (hv : ∀ x, XR f g x → φ x → x.p k = v) (hlink : Cond.fieldLink RX0 idx RX0 (TX0 k).2.1 (TX0 k).2.2.1 ∈ lw_all) (h1 : (TX0 k).1 = RX0) (hd : decode cc pc = .ok (.getfield idx, 3)) (kk : J Γ A K (pc + 3) ls (.int v :: st) P cs ss) : J Γ A K pc ls (.ref (L 35) :: st) P cs ss :=
  j_get hK (ci := 0) rfl in_X0 hk hlink (fun x h => by rw [h1] at h; exact h) hd (fun h hP => by obtain ⟨x, w, r, t, s0, e⟩ := hw h hP; exact ⟨_, w.at xcs_o, by rw [xfs_get hk]; simp [xfv, hy]; exact hv x r e⟩) kk
theorem xi_getR {k idx : Nat} (hK : Jok Γ A K cc nL RX0 hh) (hw : ∀ h, P h → XI Γ L f g T φ h) (hk : k < 35) (hy : xar k = true) (hlink : Cond.fieldLink RX0 idx RX0 (TX0 k).2.1 (TX0 k).2.2.1 ∈ lw_all) (h1 : (TX0 k).1 = RX0) (hd : decode cc pc = .ok (.getfield idx, 3)) (kk : J Γ A K (pc + 3) ls (.ref (L k) :: st) P cs ss) : J Γ A K pc ls (.ref (L 35) :: st) P cs ss :=
  j_get hK (ci := 0) rfl in_X0 hk hlink (fun x h => by rw [h1] at h; exact h) hd (fun h hP => by obtain ⟨x, w, r, t, s0, e⟩ := hw h hP; exact ⟨_, w.at xcs_o, by rw [xfs_get hk]; simp [xfv, hy]⟩) kk
theorem xi_getN {k idx : Nat} {v : Int32} {host : String} (hK : Jok Γ A K cc nL own hh) (hw : ∀ h, P h → XI Γ L f g T φ h) (hk : k < 35) (hy : xar k = false) (hv : ∀ x, XR f g x → φ x → x.p k = v) (hlink : Cond.fieldLinkNest own idx RX0 (TX0 k).2.1 (TX0 k).2.2.1 host ∈ lw_tbl) (h1 : (TX0 k).1 = RX0) (hd : decode cc pc = .ok (.getfield idx, 3)) (kk : J Γ A K (pc + 3) ls (.int v :: st) P cs ss) : J Γ A K pc ls (.ref (L 35) :: st) P cs ss :=
  j_getN hK (ci := 0) rfl in_X0 hk hlink (fun x h => by rw [h1] at h; exact h) hd (fun h hP => by obtain ⟨x, w, r, t, s0, e⟩ := hw h hP; exact ⟨_, w.at xcs_o, by rw [xfs_get hk]; simp [xfv, hy]; exact hv x r e⟩) kk
theorem xi_getNR {k idx : Nat} {host : String} (hK : Jok Γ A K cc nL own hh) (hw : ∀ h, P h → XI Γ L f g T φ h) (hk : k < 35) (hy : xar k = true) (hlink : Cond.fieldLinkNest own idx RX0 (TX0 k).2.1 (TX0 k).2.2.1 host ∈ lw_tbl) (h1 : (TX0 k).1 = RX0) (hd : decode cc pc = .ok (.getfield idx, 3)) (kk : J Γ A K (pc + 3) ls (.ref (L k) :: st) P cs ss) : J Γ A K pc ls (.ref (L 35) :: st) P cs ss :=
  j_getN hK (ci := 0) rfl in_X0 hk hlink (fun x h => by rw [h1] at h; exact h) hd (fun h hP => by obtain ⟨x, w, r, t, s0, e⟩ := hw h hP; exact ⟨_, w.at xcs_o, by rw [xfs_get hk]; simp [xfv, hy]⟩) kk
theorem xi_put {k idx : Nat} {v : Int32} (hK : Jok Γ A K cc nL RX0 hh) (hk : k < 35) (hy : xar k = false) (hput : ∀ x, XR f g x → φ x → XR f' g (xpF x k v) ∧ φ' (xpF x k v)) (h17 : f' 17 = f 17) (hlink : Cond.fieldLink RX0 idx RX0 (TX0 k).2.1 (TX0 k).2.2.1 ∈ lw_all) (h1 : (TX0 k).1 = RX0) (h2 : (TX0 k).2.2.2 = false) (hn : narrow (tyX0 k) (.int v) = .int v) (hf : fits (tyX0 k) (.int v) = true) (hd : decode cc pc = .ok (.putfield idx, 3)) (kk : J Γ A K (pc + 3) ls st (XI Γ L f' g T φ') cs ss) : J Γ A K pc ls (.int v :: .ref (L 35) :: st) (XI Γ L f g T φ) cs ss :=
  j_put hK (ci := 0) rfl in_X0 tyX0_ok nmX0 hk hlink (fun x h => by rw [h1] at h; exact h) h2 hn hf hd (fun h ⟨x, w, r, t, s, e⟩ => ⟨_, w.at xcs_o, by simp [xfs]; exact hk, by
    rw [xfs_set hy]
    refine ⟨xpF x k v, ?_, (hput x r e).1, ?_, s, (hput x r e).2⟩
    · rw [h17]
      exact w.put (by rw [xcs_o]; exact fun z => by cases z) xcs_o (fun j hj => xcs_pF hj)
    · rw [h17]
      exact t.kept (KN.putO _ (w.at xcs_o) (Or.inl (by decide))) rfl⟩) kk
theorem xi_ald {k : Nat} {i v : Int32} (hK : Jok Γ A K cc nL own hh) (hw : ∀ h, P h → XI Γ L f g T φ h) (hy : xia k = true) (h16 : k ≠ 16) (hb : vp_in i (xln k)) (hv : ∀ x, XR f g x → φ x → x.q k i = v) (hd : decode cc pc = .ok (.iaload, 1)) (kk : J Γ A K (pc + 1) ls (.int v :: st) P cs ss) : J Γ A K pc ls (.int i :: .ref (L k) :: st) P cs ss :=
  j_iald hK hd (fun h hP => by obtain ⟨x, w, r, t, s0, e⟩ := hw h hP; exact ⟨_, _, (w.at (xcs_a hy)).trans (by rw [if_neg h16]), hb, by rw [nI_cl (fun z => hb (Or.inl z))]; exact hv x r e⟩) kk
theorem xi_ast {k : Nat} {i v : Int32} (hK : Jok Γ A K cc nL own hh) (hy : xia k = true) (h16 : k ≠ 16) (hb : vp_in i (xln k)) (hput : ∀ x, XR f g x → φ x → XR f' g' (xpA x k i v) ∧ φ' (xpA x k i v)) (h17 : f' 17 = f 17) (hd : decode cc pc = .ok (.iastore, 1)) (kk : J Γ A K (pc + 1) ls st (XI Γ L f' g' T φ') cs ss) : J Γ A K pc ls (.int v :: .int i :: .ref (L k) :: st) (XI Γ L f g T φ) cs ss :=
  j_iast hK hd (fun h ⟨x, w, r, t, s, e⟩ => ⟨_, _, fun j => (xpA x k i v).q k (nI j), (w.at (xcs_a hy)).trans (by rw [if_neg h16]), hb, fun j hj => by
    show upd (fun j => x.q k (nI j)) i.toNatClampNeg v j = ug x.q k i v k (nI j)
    unfold upd ug
    by_cases e : j = i.toNatClampNeg
    · rw [if_pos e, if_pos ⟨rfl, (cl_eq hb (xln_lt k) hj).mpr e⟩]
    · rw [if_neg e, if_neg (fun z => e ((cl_eq hb (xln_lt k) hj).mp z.2))], by
    have h1 := w.at (xcs_a hy)
    refine ⟨xpA x k i v, ?_, (hput x r e).1, ?_, s, (hput x r e).2⟩
    · rw [h17]
      refine w.put (by rw [xcs_a hy]; exact fun z => by cases z) ((xcs_a hy).trans (by rw [if_neg h16])) (fun j hj => xcs_pA ?_ ?_ ?_ ?_ hj) <;> (rintro rfl; cases hy)
    · rw [h17]
      exact t.kept (KN.putA _ h1) rfl⟩) kk
theorem Bo.lt7 {b : Int32} (h : Bo f b) {x : XD} (r : XR f g x) : b.toNatClampNeg < 7 := Nat.lt_of_lt_of_le (r.2.2.1.2 b h) r.2.2.1.1
theorem xi_bald {b : Int32} (hK : Jok Γ A K cc nL own hh) (hw : ∀ h, P h → XI Γ L f g T φ h) (hb : Bo f b) (hin : vp_in b 7) (hd : decode cc pc = .ok (.aaload, 1)) (kk : J Γ A K (pc + 1) ls (.ref (L (36 + b.toNatClampNeg)) :: st) P cs ss) : J Γ A K pc ls (.int b :: .ref (L 0) :: st) P cs ss :=
  j_aald (t := 3) (v := some (L (36 + b.toNatClampNeg))) hK rfl rfl hd (fun h hP => by obtain ⟨x, w, r, t, s0, e⟩ := hw h hP; exact ⟨_, _, w.at xcs_b, hin, if_pos (r.2.2.1.2 b hb)⟩) kk
theorem xi_bta {b : Int32} (hw : ∀ h, P h → XI Γ L f g T φ h) (hb : Bo f b) (hB : InvB g b) : BtA P (L (36 + b.toNatClampNeg)) (g 1 b).toNatClampNeg (g 2 b) := by
  refine ⟨?_, fun h hP => ?_⟩
  · exact clp_le (n := 5) hB.2.1 (by decide) hB.1
  · obtain ⟨x, w, r, t, s, e⟩ := hw h hP
    have hlt := r.2.2.1.2 b hb
    rw [w.at (xcs_bo hlt (hb.lt7 r)), nI_cl (Int32.not_lt.mpr hb.1), r.2.2.2.1 36 rfl b hb, r.2.2.2.1 37 rfl b hb]
    rfl
theorem xi_shl {s : Int32} {n : Nat} (hK : Jok Γ A K cc nL own hh) (hw : ∀ h, P h → XI Γ L f g T φ h) (hs : s = nI n) (hn : n < 4) (hd : decode cc pc = .ok (.aaload, 1)) (kk : J Γ A K (pc + 1) ls (.ref (L (49 + n)) :: st) P cs ss) : J Γ A K pc ls (.int s :: .ref (L 34) :: st) P cs ss :=
  j_aald (t := 8) (v := some (L (49 + n))) hK rfl rfl hd (fun h hP => by obtain ⟨x, w, r, t, s0, e⟩ := hw h hP; exact ⟨_, _, w.at xcs_s, by rw [hs]; exact vp_in_nI hn (by omega), by rw [hs, nI_clamp (by omega)]⟩) kk
theorem xi_rowR {n idx : Nat} {host : String} (hK : Jok Γ A K cc nL own hh) (hw : ∀ h, P h → XI Γ L f g T φ h) (hn : n < 4) (hr : ¬ g 36 (nI n) = -1) (hlink : Cond.fieldLinkNest own idx RX2 (TX2 0).2.1 (TX2 0).2.2.1 host ∈ lw_tbl) (hd : decode cc pc = .ok (.getfield idx, 3)) (kk : J Γ A K (pc + 3) ls (.ref (L (53 + n)) :: st) P cs ss) : J Γ A K pc ls (.ref (L (49 + n)) :: st) P cs ss :=
  j_getN hK (ci := 2) (T := TX2) (k := 0) rfl in_X2 (by decide) hlink (fun x h => h) hd (fun h hP => by obtain ⟨x, w, r, t, s0, e⟩ := hw h hP; exact ⟨_, w.at (xcs_sh hn), by rw [(r.2.2.2.2.2.2 n hn).1, if_neg hr]; rfl⟩) kk
theorem xi_rowN {n idx : Nat} {host : String} (hK : Jok Γ A K cc nL own hh) (hw : ∀ h, P h → XI Γ L f g T φ h) (hn : n < 4) (hr : g 36 (nI n) = -1) (hlink : Cond.fieldLinkNest own idx RX2 (TX2 0).2.1 (TX2 0).2.2.1 host ∈ lw_tbl) (hd : decode cc pc = .ok (.getfield idx, 3)) (kk : J Γ A K (pc + 3) ls (.null :: st) P cs ss) : J Γ A K pc ls (.ref (L (49 + n)) :: st) P cs ss :=
  j_getN hK (ci := 2) (T := TX2) (k := 0) rfl in_X2 (by decide) hlink (fun x h => h) hd (fun h hP => by obtain ⟨x, w, r, t, s0, e⟩ := hw h hP; exact ⟨_, w.at (xcs_sh hn), by rw [(r.2.2.2.2.2.2 n hn).1, if_pos hr]; rfl⟩) kk
/-- the row of a sheet -/
theorem xi_row {n : Nat} (hw : ∀ h, P h → XI Γ L f g T φ h) (hn : n < 4) (hr : ¬ g 36 (nI n) = -1) : ∀ h, P h → ∃ F : Nat → Int32, h (L (53 + n)) = some (.inl (gA Γ (srt (g 36 (nI n))), (g 37 (nI n)).toNatClampNeg, .inl F)) ∧ ∀ i : Nat, nI i < g 37 (nI n) → i < 40 → F i = g 38 (40 * nI n + nI i) := fun h hP => by
  obtain ⟨x, w, r, t, s, e⟩ := hw h hP
  have hs := r.2.2.2.2.2.2 n hn
  refine ⟨fun j => x.q (53 + n) (nI j), ?_, (hs.2 hr).2⟩
  rw [w.at (xcs_row hn (by rw [hs.1]; exact hr)), hs.1, (hs.2 hr).1]
/-- a text's row, and a tree of it -/
theorem xi_txt {s : Int32} {n : Nat} (hK : Jok Γ A K cc nL own hh) (hw : ∀ h, P h → XI Γ L f g T φ h) (hs : s = nI n) (hn : n < (f 17).toNatClampNeg) (hd : decode cc pc = .ok (.aaload, 1)) (kk : J Γ A K (pc + 1) ls (.ref (L (57 + n)) :: st) P cs ss) : J Γ A K pc ls (.int s :: .ref (L 12) :: st) P cs ss :=
  j_aald (t := 5) (v := some (L (57 + n))) hK rfl rfl hd (fun h hP => by obtain ⟨x, w, r, t, s0, e⟩ := hw h hP; exact ⟨_, _, w.at xcs_t, by rw [hs]; exact vp_in_nI (Nat.lt_of_lt_of_le hn t.1) (by omega), by rw [hs, nI_clamp (by have := t.1; omega)]; exact if_pos hn⟩) kk
theorem xi_node {s : Int32} {n w : Nat} (hK : Jok Γ A K cc nL own hh) (hw : ∀ h, P h → XI Γ L f g T φ h) (hs : s = nI w) (hw3 : w < 3) (hn : n < (f 17).toNatClampNeg) (hd : decode cc pc = .ok (.aaload, 1)) (kk : ∀ a, J Γ A K (pc + 1) ls (.ref a :: st) (fun h => P h ∧ NT 160 h (L 35) a (T (nI n) w)) cs ss) : J Γ A K pc ls (.int s :: .ref (L (57 + n)) :: st) P cs ss := fun h H locs arr hP hR hL => by
  obtain ⟨x, w0, r, t, s', e⟩ := hw h hP
  refine j_aald (P := fun h' => h' = h) (t := 4) (v := some (x.r n w)) hK rfl rfl hd (fun h' e' => ⟨_, _, (congrFun e' _).trans (w0.at (xcs_tx hn (Nat.lt_of_lt_of_le hn t.1))), by rw [hs]; exact vp_in_nI hw3 (by omega), by rw [hs, nI_clamp (by omega)]⟩) ?_ h H locs arr rfl hR hL
  exact J.mono (fun h' e' => by rw [e']; exact ⟨hP, t.2 n hn w hw3⟩) (kk (x.r n w))
/-! how the tie is kept -/
theorem XR.pH {x : XD} {k : Nat} {v : Int32} (r : XR f g x) (hk : xfd k = false) : XR f g (xpF x k v) := by
  refine ⟨fun j hj => ?_, r.2⟩
  show upd x.p k v j = _
  unfold upd
  rw [if_neg (fun z => by rw [z, hk] at hj; cases hj)]
  exact r.1 j hj
theorem XR.pF {x : XD} {k : Nat} {v : Int32} (r : XR f g x) (hk : k = 8 ∨ k = 9 ∨ k = 24) : XR (upd f (xf k) v) g (xpF x k v) := by
  obtain ⟨r1, r2, r3, r4, r5, r6, r7⟩ := r
  have key : ∀ j, xfd j = true → upd x.p k v j = upd f (xf k) v (xf j) := fun j hj => by
    by_cases e : j = k
    · subst e
      simp [upd]
    · have e2 : xf j ≠ xf k := by
        rcases hk with rfl | rfl | rfl <;> rcases xfd_in hj with rfl | rfl | rfl | rfl | rfl | rfl | rfl <;> first | decide | exact absurd rfl e
      unfold upd
      rw [if_neg e, if_neg e2]
      exact r1 j hj
  have same : ∀ m, m ≠ 10 → m ≠ 14 → m ≠ 18 → upd f (xf k) v m = f m := fun m h1 h2 h3 => by
    unfold upd
    rw [if_neg]
    rcases hk with rfl | rfl | rfl <;> simp [xf] <;> assumption
  have hb : ∀ b, Bo (upd f (xf k) v) b → Bo f b := fun b hb => ⟨hb.1, by have := hb.2; rwa [same 0 (by decide) (by decide) (by decide)] at this⟩
  refine ⟨key, fun i hi => ?_, ⟨r3.1, fun b h => r3.2 b (hb b h)⟩, fun j hj b h => r4 j hj b (hb b h), fun j h0 h1 => r5 j h0 (by rwa [same 15 (by decide) (by decide) (by decide)] at h1), fun h => ?_, r7⟩
  · rw [same (xl i) (by unfold xl; split <;> decide) (by unfold xl; split <;> decide) (by unfold xl; split <;> decide)]
    exact r2 i hi
  · rw [same 33 (by decide) (by decide) (by decide)] at h
    have q := r6 h
    unfold XRi at q ⊢
    rw [same 34 (by decide) (by decide) (by decide), same 0 (by decide) (by decide) (by decide)]
    exact q
theorem XR.aH {x : XD} {k : Nat} {i v : Int32} (r : XR f g x) (hk : k = 25 ∨ k = 26 ∨ k = 29) : XR f g (xpA x k i v) := by
  obtain ⟨r1, r2, r3, r4, r5, r6, r7⟩ := r
  have hq : ∀ m, m ≠ 25 → m ≠ 26 → m ≠ 29 → (xpA x k i v).q m = x.q m := fun m h1 h2 h3 => xpA_q (by rcases hk with rfl | rfl | rfl <;> assumption)
  refine ⟨r1, fun j hj => by rw [hq 7 (by decide) (by decide) (by decide)]; exact r2 j hj, r3, fun j hj b h => ?_, fun j h0 h1 => by rw [hq 16 (by decide) (by decide) (by decide)]; exact r5 j h0 h1, fun h => ?_, fun s hs => ?_⟩
  · rw [hq j (by rintro rfl; cases hj) (by rintro rfl; cases hj) (by rintro rfl; cases hj)]
    exact r4 j hj b h
  · have q := r6 h
    unfold XRi at q ⊢
    rw [hq 33 (by decide) (by decide) (by decide), hq 32 (by decide) (by decide) (by decide)]
    refine ⟨q.1, q.2.1, q.2.2.1, q.2.2.2.1, q.2.2.2.2.1, q.2.2.2.2.2.1, q.2.2.2.2.2.2.1, q.2.2.2.2.2.2.2.1, q.2.2.2.2.2.2.2.2.1, q.2.2.2.2.2.2.2.2.2.1, q.2.2.2.2.2.2.2.2.2.2.1, fun j h1 h2 b h3 h4 => ?_⟩
    rw [hq j (by omega) (by omega) (by omega)]
    exact q.2.2.2.2.2.2.2.2.2.2.2 j h1 h2 b h3 h4
  · have q := r7 s hs
    unfold XRs at q ⊢
    rw [hq 38 (by decide) (by decide) (by decide), hq 39 (by decide) (by decide) (by decide), hq (53 + s) (by omega) (by omega) (by omega)]
    exact q
theorem XR.aB {x : XD} {k : Nat} {b v : Int32} (r : XR f g x) (hk : 1 ≤ k ∧ k ≤ 5) (hb : Bo f b) : XR f (ug g (xg k) b v) (xpA x k b v) := by
  obtain ⟨r1, r2, r3, r4, r5, r6, r7⟩ := r
  have hq : ∀ m, 5 < m → (xpA x k b v).q m = x.q m := fun m h1 => xpA_q (by omega)
  have hx : 3 ≤ xg k ∧ xg k ≤ 7 := by
    obtain ⟨h1, h2⟩ := hk
    rcases n6 (show k < 6 by omega) with rfl | rfl | rfl | rfl | rfl | rfl <;> first | omega | (constructor <;> decide)
  have hg : ∀ m, 7 < m → ∀ j, ug g (xg k) b v m j = g m j := fun m h1 j => ug_k g b v (by omega) j
  refine ⟨r1, fun j hj => by rw [hq 7 (by decide)]; exact r2 j hj, r3, fun j hj b' h => ?_, fun j h0 h1 => by rw [hq 16 (by decide), hg 16 (by decide)]; exact r5 j h0 h1, fun h => ?_, fun s hs => ?_⟩
  · by_cases e : j = k
    · subst e
      show ug x.q j b v j b' = ug g (xg j) b v (xg j) b'
      by_cases e2 : b' = b
      · subst e2
        rw [ug_s, ug_s]
      · rw [ug_i _ _ _ e2, ug_i _ _ _ e2]
        exact r4 j hj b' h
    · have e2 : xg j ≠ xg k := by
        obtain ⟨h1, h2⟩ := hk
        rcases (show k = 1 ∨ k = 2 ∨ k = 3 ∨ k = 4 ∨ k = 5 by omega) with rfl | rfl | rfl | rfl | rfl <;> rcases xgd_in hj with rfl | rfl | rfl | rfl | rfl | rfl | rfl <;> first | decide | exact absurd rfl e
      rw [xpA_q e, ug_k g b v e2]
      exact r4 j hj b' h
  · have q := r6 h
    unfold XRi at q ⊢
    simp only [hq 33 (by decide), hq 32 (by decide), hg 35 (by decide)]
    refine ⟨q.1, q.2.1, q.2.2.1, q.2.2.2.1, q.2.2.2.2.1, q.2.2.2.2.2.1, q.2.2.2.2.2.2.1, q.2.2.2.2.2.2.2.1, q.2.2.2.2.2.2.2.2.1, q.2.2.2.2.2.2.2.2.2.1, q.2.2.2.2.2.2.2.2.2.2.1, fun j h1 h2 b h3 h4 => ?_⟩
    rw [hq j (by omega)]
    exact q.2.2.2.2.2.2.2.2.2.2.2 j h1 h2 b h3 h4
  · have q := r7 s hs
    unfold XRs at q ⊢
    simp only [hq 38 (by decide), hq 39 (by decide), hq (53 + s) (by omega), hg 36 (by decide), hg 37 (by decide), hg 38 (by decide)]
    exact q
theorem XR.aL {x : XD} {i : Nat} {v : Int32} (r : XR f g x) (hi : i < 5) : XR (upd f (xl i) v) g (xpA x 7 (nI i) v) := by
  obtain ⟨r1, r2, r3, r4, r5, r6, r7⟩ := r
  have hq : ∀ m, m ≠ 7 → (xpA x 7 (nI i) v).q m = x.q m := fun m h1 => xpA_q h1
  have hx : xl i = 8 ∨ xl i = 9 ∨ xl i = 11 ∨ xl i = 12 ∨ xl i = 13 := by
    rcases (show i = 0 ∨ i = 1 ∨ i = 2 ∨ i = 3 ∨ i = 4 by omega) with rfl | rfl | rfl | rfl | rfl <;> simp [xl]
  have same : ∀ m, m ≠ 8 → m ≠ 9 → m ≠ 11 → m ≠ 12 → m ≠ 13 → upd f (xl i) v m = f m := fun m h1 h2 h3 h4 h5 => by
    unfold upd
    rw [if_neg]
    omega
  have hb : ∀ b, Bo (upd f (xl i) v) b → Bo f b := fun b hb => ⟨hb.1, by have := hb.2; rwa [same 0 (by decide) (by decide) (by decide) (by decide) (by decide)] at this⟩
  refine ⟨fun j hj => ?_, fun j hj => ?_, ⟨r3.1, fun b h => r3.2 b (hb b h)⟩, fun j hj b h => ?_, fun j h0 h1 => ?_, fun h => ?_, fun s hs => ?_⟩
  · have e : xf j ≠ 8 ∧ xf j ≠ 9 ∧ xf j ≠ 11 ∧ xf j ≠ 12 ∧ xf j ≠ 13 := by
      rcases xfd_in hj with rfl | rfl | rfl | rfl | rfl | rfl | rfl <;> decide
    rw [same (xf j) e.1 e.2.1 e.2.2.1 e.2.2.2.1 e.2.2.2.2]
    exact r1 j hj
  · show ug x.q 7 (nI i) v 7 (nI j) = _
    by_cases e : j = i
    · subst e
      rw [ug_s]
      simp [upd]
    · have e1 : nI j ≠ nI i := fun z => e ((nI_eq (by omega) (by omega)).mp z)
      rw [ug_i _ _ _ e1, r2 j hj]
      unfold upd
      rw [if_neg]
      rcases (show i = 0 ∨ i = 1 ∨ i = 2 ∨ i = 3 ∨ i = 4 by omega) with rfl | rfl | rfl | rfl | rfl <;> rcases (show j = 0 ∨ j = 1 ∨ j = 2 ∨ j = 3 ∨ j = 4 by omega) with rfl | rfl | rfl | rfl | rfl <;> first | (exact absurd rfl e) | (simp [xl])
  · rw [hq j (by rintro rfl; cases hj)]
    exact r4 j hj b (hb b h)
  · rw [hq 16 (by decide)]
    exact r5 j h0 (by rwa [same 15 (by decide) (by decide) (by decide) (by decide) (by decide)] at h1)
  · rw [same 33 (by decide) (by decide) (by decide) (by decide) (by decide)] at h
    have q := r6 h
    unfold XRi at q ⊢
    simp only [same 34 (by decide) (by decide) (by decide) (by decide) (by decide), same 0 (by decide) (by decide) (by decide) (by decide) (by decide), hq 33 (by decide), hq 32 (by decide)]
    refine ⟨q.1, q.2.1, q.2.2.1, q.2.2.2.1, q.2.2.2.2.1, q.2.2.2.2.2.1, q.2.2.2.2.2.2.1, q.2.2.2.2.2.2.2.1, q.2.2.2.2.2.2.2.2.1, q.2.2.2.2.2.2.2.2.2.1, q.2.2.2.2.2.2.2.2.2.2.1, fun j h1 h2 b h3 h4 => ?_⟩
    rw [hq j (by omega)]
    exact q.2.2.2.2.2.2.2.2.2.2.2 j h1 h2 b h3 h4
  · have q := r7 s hs
    unfold XRs at q ⊢
    simp only [hq 38 (by decide), hq 39 (by decide), hq (53 + s) (by omega)]
    exact q
/-! the rows that the walks use -/
theorem xi_getF {k n idx : Nat} (hK : Jok Γ A K cc nL RX0 hh) (hw : ∀ h, P h → XI Γ L f g T φ h) (hx : xfd k = true) (hn : xf k = n) (hk : k < 35) (hy : xar k = false) (hlink : Cond.fieldLink RX0 idx RX0 (TX0 k).2.1 (TX0 k).2.2.1 ∈ lw_all) (h1 : (TX0 k).1 = RX0) (hd : decode cc pc = .ok (.getfield idx, 3)) (kk : J Γ A K (pc + 3) ls (.int (f n) :: st) P cs ss) : J Γ A K pc ls (.ref (L 35) :: st) P cs ss :=
  xi_get hK hw hk hy (fun x r _ => by rw [← hn]; exact r.1 k hx) hlink h1 hd kk
theorem xi_getNF {k n idx : Nat} {host : String} (hK : Jok Γ A K cc nL own hh) (hw : ∀ h, P h → XI Γ L f g T φ h) (hx : xfd k = true) (hn : xf k = n) (hk : k < 35) (hy : xar k = false) (hlink : Cond.fieldLinkNest own idx RX0 (TX0 k).2.1 (TX0 k).2.2.1 host ∈ lw_tbl) (h1 : (TX0 k).1 = RX0) (hd : decode cc pc = .ok (.getfield idx, 3)) (kk : J Γ A K (pc + 3) ls (.int (f n) :: st) P cs ss) : J Γ A K pc ls (.ref (L 35) :: st) P cs ss :=
  xi_getN hK hw hk hy (fun x r _ => by rw [← hn]; exact r.1 k hx) hlink h1 hd kk
theorem xi_putF {k n idx : Nat} {v : Int32} (hK : Jok Γ A K cc nL RX0 hh) (hx : k = 8 ∨ k = 9 ∨ k = 24) (hn : xf k = n) (hk : k < 35) (hy : xar k = false) (hφ : ∀ x, φ x → φ (xpF x k v)) (hlink : Cond.fieldLink RX0 idx RX0 (TX0 k).2.1 (TX0 k).2.2.1 ∈ lw_all) (h1 : (TX0 k).1 = RX0) (h2 : (TX0 k).2.2.2 = false) (hnr : narrow (tyX0 k) (.int v) = .int v) (hf : fits (tyX0 k) (.int v) = true) (hd : decode cc pc = .ok (.putfield idx, 3)) (kk : J Γ A K (pc + 3) ls st (XI Γ L (upd f n v) g T φ) cs ss) : J Γ A K pc ls (.int v :: .ref (L 35) :: st) (XI Γ L f g T φ) cs ss :=
  xi_put hK hk hy (fun x r e => ⟨by rw [← hn]; exact r.pF hx, hφ x e⟩) (by subst hn; unfold upd; rw [if_neg]; rcases hx with rfl | rfl | rfl <;> decide) hlink h1 h2 hnr hf hd kk
theorem xi_putH {k idx : Nat} {v : Int32} (hK : Jok Γ A K cc nL RX0 hh) (hx : xfd k = false) (hk : k < 35) (hy : xar k = false) (hφ : ∀ x, φ x → φ' (xpF x k v)) (hlink : Cond.fieldLink RX0 idx RX0 (TX0 k).2.1 (TX0 k).2.2.1 ∈ lw_all) (h1 : (TX0 k).1 = RX0) (h2 : (TX0 k).2.2.2 = false) (hnr : narrow (tyX0 k) (.int v) = .int v) (hf : fits (tyX0 k) (.int v) = true) (hd : decode cc pc = .ok (.putfield idx, 3)) (kk : J Γ A K (pc + 3) ls st (XI Γ L f g T φ') cs ss) : J Γ A K pc ls (.int v :: .ref (L 35) :: st) (XI Γ L f g T φ) cs ss :=
  xi_put hK hk hy (fun x r e => ⟨r.pH hx, hφ x e⟩) rfl hlink h1 h2 hnr hf hd kk
theorem Bo.in7' {b : Int32} (h : Bo f b) {x : XD} (r : XR f g x) : vp_in b 7 := fun z => z.elim (fun q => absurd q (Int32.not_lt.mpr h.1)) (fun q => absurd (h.lt7 r) (by omega))
theorem xi_aldB {k n : Nat} {b : Int32} (hK : Jok Γ A K cc nL own hh) (hw : ∀ h, P h → XI Γ L f g T φ h) (hk : 1 ≤ k ∧ k ≤ 5) (hn : xg k = n) (hy : xia k = true) (hl : xln k = 7) (hx : xgd k = true) (hb : Bo f b) (hd : decode cc pc = .ok (.iaload, 1)) (kk : J Γ A K (pc + 1) ls (.int (g n b) :: st) P cs ss) : J Γ A K pc ls (.int b :: .ref (L k) :: st) P cs ss :=
  j_iald hK hd (fun h hP => by obtain ⟨x, w, r, t, s0, e⟩ := hw h hP; exact ⟨_, _, (w.at (xcs_a hy)).trans (by rw [if_neg (show ¬ k = 16 by omega)]), by rw [hl]; exact hb.in7' r, by rw [nI_cl (Int32.not_lt.mpr hb.1), ← hn]; exact r.2.2.2.1 k hx b hb⟩) kk
theorem xi_astB {k n : Nat} {b v : Int32} (hK : Jok Γ A K cc nL own hh) (hk : 1 ≤ k ∧ k ≤ 5) (hn : xg k = n) (hy : xia k = true) (hl : xln k = 7) (hb : Bo f b) (hin : vp_in b 7) (hφ : ∀ x, φ x → φ (xpA x k b v)) (hd : decode cc pc = .ok (.iastore, 1)) (kk : J Γ A K (pc + 1) ls st (XI Γ L f (ug g n b v) T φ) cs ss) : J Γ A K pc ls (.int v :: .int b :: .ref (L k) :: st) (XI Γ L f g T φ) cs ss :=
  xi_ast hK hy (by omega) (by rw [hl]; exact hin) (fun x r e => ⟨by rw [← hn]; exact r.aB hk hb, hφ x e⟩) rfl hd kk
theorem xi_aldL {i n : Nat} {c : Int32} (hK : Jok Γ A K cc nL own hh) (hw : ∀ h, P h → XI Γ L f g T φ h) (hi : i < 5) (hn : xl i = n) (hc : nI i = c) (hd : decode cc pc = .ok (.iaload, 1)) (kk : J Γ A K (pc + 1) ls (.int (f n) :: st) P cs ss) : J Γ A K pc ls (.int c :: .ref (L 7) :: st) P cs ss :=
  xi_ald (k := 7) hK hw rfl (by decide) (by rw [← hc]; exact vp_in_nI (show i < xln 7 from hi) (xln_lt 7)) (fun x r _ => by rw [← hn, ← hc]; exact r.2.1 i hi) hd kk
theorem xi_astL {i n : Nat} {c v : Int32} (hK : Jok Γ A K cc nL own hh) (hi : i < 5) (hn : xl i = n) (hc : nI i = c) (hφ : ∀ x, φ x → φ (xpA x 7 c v)) (hd : decode cc pc = .ok (.iastore, 1)) (kk : J Γ A K (pc + 1) ls st (XI Γ L (upd f n v) g T φ) cs ss) : J Γ A K pc ls (.int v :: .int c :: .ref (L 7) :: st) (XI Γ L f g T φ) cs ss :=
  xi_ast (k := 7) hK rfl (by decide) (by rw [← hc]; exact vp_in_nI (show i < xln 7 from hi) (xln_lt 7)) (fun x r e => ⟨by rw [← hn, ← hc]; exact r.aL hi, hφ x e⟩) (by subst hn; unfold upd; rw [if_neg]; rcases (show i = 0 ∨ i = 1 ∨ i = 2 ∨ i = 3 ∨ i = 4 by omega) with rfl | rfl | rfl | rfl | rfl <;> decide) hd kk
theorem xi_baldB {b : Int32} (hK : Jok Γ A K cc nL own hh) (hw : ∀ h, P h → XI Γ L f g T φ h) (hb : Bo f b) (hd : decode cc pc = .ok (.aaload, 1)) (kk : J Γ A K (pc + 1) ls (.ref (L (36 + b.toNatClampNeg)) :: st) P cs ss) : J Γ A K pc ls (.int b :: .ref (L 0) :: st) P cs ss :=
  j_aald (t := 3) (v := some (L (36 + b.toNatClampNeg))) hK rfl rfl hd (fun h hP => by obtain ⟨x, w, r, t, s0, e⟩ := hw h hP; exact ⟨_, _, w.at xcs_b, hb.in7' r, if_pos (r.2.2.1.2 b hb)⟩) kk
/-- the number of a boat is written -/
theorem XR.aN {x : XD} {b v : Int32} (r : XR f g x) (hb : Bo f b) : XR f (ug g 2 b v) (xpA x 36 b v) := by
  obtain ⟨r1, r2, r3, r4, r5, r6, r7⟩ := r
  have hq : ∀ m, m ≠ 36 → (xpA x 36 b v).q m = x.q m := fun m h1 => xpA_q h1
  have hg : ∀ m, 7 < m → ∀ j, ug g 2 b v m j = g m j := fun m h1 j => ug_k g b v (by omega) j
  refine ⟨r1, fun j hj => by rw [hq 7 (by decide)]; exact r2 j hj, r3, fun j hj b' h => ?_, fun j h0 h1 => by rw [hq 16 (by decide), hg 16 (by decide)]; exact r5 j h0 h1, fun h => ?_, fun s hs => ?_⟩
  · by_cases e : j = 36
    · subst e
      show ug x.q 36 b v 36 b' = ug g 2 b v 2 b'
      by_cases e2 : b' = b
      · subst e2
        rw [ug_s, ug_s]
      · rw [ug_i _ _ _ e2, ug_i _ _ _ e2]
        exact r4 36 hj b' h
    · have e2 : xg j ≠ 2 := by
        rcases xgd_in hj with rfl | rfl | rfl | rfl | rfl | rfl | rfl <;> first | decide | exact absurd rfl e
      rw [xpA_q e, ug_k g b v e2]
      exact r4 j hj b' h
  · have q := r6 h
    unfold XRi at q ⊢
    simp only [hq 33 (by decide), hq 32 (by decide), hg 35 (by decide)]
    refine ⟨q.1, q.2.1, q.2.2.1, q.2.2.2.1, q.2.2.2.2.1, q.2.2.2.2.2.1, q.2.2.2.2.2.2.1, q.2.2.2.2.2.2.2.1, q.2.2.2.2.2.2.2.2.1, q.2.2.2.2.2.2.2.2.2.1, q.2.2.2.2.2.2.2.2.2.2.1, fun j h1 h2 b h3 h4 => ?_⟩
    rw [hq j (by omega)]
    exact q.2.2.2.2.2.2.2.2.2.2.2 j h1 h2 b h3 h4
  · have q := r7 s hs
    unfold XRs at q ⊢
    simp only [hq 38 (by decide), hq 39 (by decide), hq (53 + s) (by omega), hg 36 (by decide), hg 37 (by decide), hg 38 (by decide)]
    exact q
theorem xcs_pN {x : XD} {tm b k : Nat} {v : Int32} (hb : b < 7) (h : k ≠ 36 + b) : xcs Γ L (xpA x 36 (nI b) v) tm k = xcs Γ L x tm k := by
  by_cases e36 : k = 36
  · have hb0 : b ≠ 0 := by omega
    subst e36
    unfold xcs
    rw [xpA_q (show (37 : Nat) ≠ 36 by decide), xpA_q (show (38 : Nat) ≠ 36 by decide), xpA_q (show (39 : Nat) ≠ 36 by decide)]
    have : (xpA x 36 (nI b) v).q 36 (nI (36 - 36)) = x.q 36 (nI (36 - 36)) := ug_i _ _ _ (fun z => hb0 ((nI_eq (by omega) (by omega)).mp z).symm)
    rw [this]
    rfl
  · unfold xcs
    rw [xpA_q e36, xpA_q (show (37 : Nat) ≠ 36 by decide), xpA_q (show (38 : Nat) ≠ 36 by decide), xpA_q (show (39 : Nat) ≠ 36 by decide)]
    by_cases hr : 36 ≤ k ∧ k < 36 + x.nb ∧ k < 43
    · have : (xpA x 36 (nI b) v).q 36 (nI (k - 36)) = x.q 36 (nI (k - 36)) := ug_i _ _ _ (fun z => by
        have := (nI_eq (by omega) (by omega)).mp z
        omega)
      rw [this]
      rfl
    · have hr' : ¬ (36 ≤ k ∧ k < 36 + (xpA x 36 (nI b) v).nb ∧ k < 43) := hr
      rw [if_neg hr, if_neg hr']
      rfl
theorem xi_pnum {idx : Nat} {b v : Int32} {ref : String} (hK : Jok Γ A K cc nL own hh) (hb : Bo f b) (hB : InvB g b) (hφ : ∀ x, φ x → φ (xpA x 36 b v)) (hlink : Cond.fieldLink own idx ref "number" "I" ∈ lw_all) (hsame : ref = RX9 ∨ Cond.sameField ref RX9 "number" "I" ∈ lw_all) (hd : decode cc pc = .ok (.putfield idx, 3)) (kk : J Γ A K (pc + 3) ls st (XI Γ L f (ug g 2 b v) T φ) cs ss) : J Γ A K pc ls (.int v :: .ref (L (36 + b.toNatClampNeg)) :: st) (XI Γ L f g T φ) cs ss :=
  b_pnum hK (xi_bta (fun _ w => w) hb hB) hlink hsame hd (fun h ⟨x, w, r, t, s, e⟩ => by
    have hlt := r.2.2.1.2 b hb
    have h7 := hb.lt7 r
    have hnb : nI b.toNatClampNeg = b := nI_cl (Int32.not_lt.mpr hb.1)
    have h1 := w.at (xcs_bo hlt h7)
    refine ⟨xpA x 36 b v, ?_, r.aN hb, ?_, s, hφ x e⟩
    · refine w.put (by rw [xcs_bo hlt h7]; exact fun z => by cases z) ?_ (fun k hk => by rw [← hnb] at hk ⊢; exact xcs_pN h7 (by rwa [hnb] at hk))
      rw [xcs_bo (x := xpA x 36 b v) hlt h7, hnb]
      show some (Sum.inr (8 + (ug x.q 36 b v 37 b).toNatClampNeg, [Value.int (ug x.q 36 b v 36 b)])) = _
      rw [ug_s, ug_k _ _ _ (by decide), r.2.2.2.1 37 rfl b hb]
      rfl
    · exact t.kept (KN.putO _ h1 (Or.inr (by omega))) rfl) kk
end XRW
