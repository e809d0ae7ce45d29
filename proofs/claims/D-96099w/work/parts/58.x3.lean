/-! the class: asks, wouldCome, owes, calls, time -/
set_option maxRecDepth 100000
section X58
variable {Γ : Gam} {A : Nat → Prop} {L : Nat → Nat} {f : Nat → Int32} {g : Nat → Int32 → Int32} {T : TX} {P : PH → Prop}
def askI (f : Nat → Int32) (g : Nat → Int32 → Int32) (T : TX) (k : Nat) (b : Int32) : Int32 := if k = 0 then maxI 0 (minI 99 (ruleI f g T k b (g 3 b) (f 10))) else ruleI f g T k b (g 3 b) (f 10)
theorem OkR.n (h : OkR f T) : ∃ n, n < (f 17).toNatClampNeg ∧ f 18 = nI n ∧ n < 6 := by
  obtain ⟨h0, h1, h2, -⟩ := h
  obtain ⟨n, hn, e⟩ := nI_of (Int32.not_lt.mpr h0)
  obtain ⟨m, hm, e2⟩ := nI_of2 (x := f 17) (M := 6) (n := 6) (by decide) (Int32.not_lt.mpr (Int32.le_of_lt (Int32.lt_of_le_of_lt h0 h1))) h2
  rw [e, e2] at h1
  have := (nI_ltI hn (by omega)).mp h1
  exact ⟨n, by rw [e2, nI_clamp (by omega)]; exact this, e, by omega⟩
theorem c_XasksG {φ : XD → Prop} (hφ : ∀ x v, φ x → φ (xpF x 11 v)) {k : Nat} {key b : Int32} (hk : k < 3) (hkey : key = nI k) (ho : OkR f T) (hb : Bo f b) : Ct Γ A yX0_asks wX0_asks 172 0 0 [.ref (L 35), .int key, .int b] (XI Γ L f g T φ) (RI fun r h => r = askI f g T k b ∧ XI Γ L f g T φ h) := by
  obtain ⟨n, hn, en, -⟩ := ho.n
  have ev : ruleI f g T k b (g 3 b) (f 10) = vl (nmF f g b (g 3 b) (f 10)) (T (nI n) k) := by rw [← en]; rfl
  refine Ct.of (cc := cX0_asks) (nL := 4) (ret := (some .int)) (ls := [some (.ref (L 35)), some (.int key), some (.int b), none]) rfl rfl rfl (nle rfl) ?_
  intro K hK hQ
  refine j_aload_n (pc := 0) hK dX0_asks_0 rfl ?_
  refine j_iload_n (pc := 1) hK dX0_asks_1 rfl ?_
  refine xi_putH (pc := 2) (k := 11) (φ' := (fun x => φ x ∧ x.p 11 = b)) hK rfl (by decide) rfl (fun x e => ⟨hφ x b e, rfl⟩) q762 rfl rfl rfl rfl dX0_asks_2 ?_
  refine j_aload_n (pc := 5) hK dX0_asks_5 rfl ?_
  refine xi_getR (pc := 6) (k := 12) hK (fun _ w => w) (by decide) rfl q763 rfl dX0_asks_6 ?_
  refine j_aload_n (pc := 9) hK dX0_asks_9 rfl ?_
  refine xi_getF (pc := 10) (k := 24) (n := 18) hK (fun _ w => w) rfl rfl (by decide) rfl q775 rfl dX0_asks_10 ?_
  refine xi_txt (pc := 13) hK (fun _ w => w) en hn dX0_asks_13 ?_
  refine j_iload_n (pc := 14) hK dX0_asks_14 rfl ?_
  refine xi_node (pc := 15) hK (fun _ w => w) hkey hk hn dX0_asks_15 (fun a15 => ?_)
  refine rowW 160 hb K _ _ _ _ 16 _ _ _ _ _ _ _ _ _ _ a15 (T (nI n) k) _ (fun h w => xi_mono (fun _ e => e.2) _ w.1) (fun h w => w.2) hK hQ q313 dX0_asks_16 (by decide) (Nat.le_refl _) (Nat.le_refl _) (by decide) ?_
  rw [← ev]
  refine j_ist3 (pc := 19) hK dX0_asks_19 (by decide) rfl ?_
  refine j_iload_n (pc := 20) hK dX0_asks_20 rfl ?_
  refine j_if_ne (pc := 21) (tgt := 37) hK dX0_asks_21 (by decide) (fun c21 => ?_) (fun c21 => ?_)
  · have hk0 : ¬ k = 0 := fun z => c21 (by rw [hkey, z]; rfl)
    refine j_iload_n (pc := 37) hK dX0_asks_37 rfl ?_
    exact j_iret (pc := 38) hK hQ (nle rfl) (nle rfl) dX0_asks_38 (fun h w => ⟨_, rfl, (by unfold askI; first | rw [if_pos hk0] | rw [if_neg hk0]), xi_mono (fun _ e => e.1) _ w.1⟩)
  · have hk0 : k = 0 := (nI_eq (a := k) (b := 0) (by omega) (by decide)).mp (hkey.symm.trans c21)
    refine j_iconst (pc := 24) (v := 0) hK dX0_asks_24 (by decide) ?_
    refine j_bipush (pc := 25) (v := 99) hK dX0_asks_25 (by decide) ?_
    refine j_iload_n (pc := 27) hK dX0_asks_27 rfl ?_
    refine j_mmin (pc := 28) hK hQ q339 dX0_asks_28 (nle rfl) (nle rfl) (nle rfl) ?_
    refine j_mmax (pc := 31) hK hQ q342 dX0_asks_31 (nle rfl) (nle rfl) (nle rfl) ?_
    refine j_goto (pc := 34) (tgt := 38) hK dX0_asks_34 (by decide) ?_
    exact j_iret (pc := 38) hK hQ (nle rfl) (nle rfl) dX0_asks_38 (fun h w => ⟨_, rfl, (by unfold askI; first | rw [if_pos hk0] | rw [if_neg hk0]), xi_mono (fun _ e => e.1) _ w.1⟩)
theorem c_Xasks {k : Nat} {key b : Int32} (hk : k < 3) (hkey : key = nI k) (ho : OkR f T) (hb : Bo f b) : Ct Γ A yX0_asks wX0_asks 172 0 0 [.ref (L 35), .int key, .int b] (XI Γ L f g T TT) (RI fun r h => r = askI f g T k b ∧ XI Γ L f g T TT h) := c_XasksG (fun _ _ _ => trivial) hk hkey ho hb
theorem c_XwouldComeG {φ : XD → Prop} (hφ : ∀ x v, φ x → φ (xpF x 11 v)) {b : Int32} (hb : Bo f b) (hN : InvW f) (hB : InvB g b) (ho : OkR f T) : Ct Γ A yX0_wouldCome wX0_wouldCome 173 0 0 [.ref (L 35), .int b] (XI Γ L f g T φ) (RI fun r h => r = b2i (WC f g T b (g 3 b) (f 10)) ∧ XI Γ L f g T φ h) := by
  refine Ct.of (cc := cX0_wouldCome) (nL := 2) (ret := (some .boolean)) (ls := [some (.ref (L 35)), some (.int b)]) rfl rfl rfl (nle rfl) ?_
  intro K hK hQ
  refine j_aload_n (pc := 0) hK dX0_wouldCome_0 rfl ?_
  refine xi_getR (pc := 1) (k := 1) hK (fun _ w => w) (by decide) rfl q749 rfl dX0_wouldCome_1 ?_
  refine j_iload_n (pc := 4) hK dX0_wouldCome_4 rfl ?_
  refine xi_aldB (pc := 5) (k := 1) (n := 3) hK (fun _ w => w) (by decide) rfl rfl rfl rfl hb dX0_wouldCome_5 ?_
  refine j_iconst (pc := 6) (v := 0) hK dX0_wouldCome_6 (by decide) ?_
  refine j_callS (pc := 7) hK hQ (c_Xfar _ _) cal_X0_far q303 dX0_wouldCome_7 rfl rfl (nle rfl) (nle rfl) (nle rfl) (nle rfl) (kr_i fun r7 => ?_) kx_i
  refine J.pre fun e7 => ?_
  subst e7
  refine j_aload_n (pc := 10) hK dX0_wouldCome_10 rfl ?_
  refine xi_getR (pc := 11) (k := 0) hK (fun _ w => w) (by decide) rfl q747 rfl dX0_wouldCome_11 ?_
  refine j_iload_n (pc := 14) hK dX0_wouldCome_14 rfl ?_
  refine xi_baldB (pc := 15) hK (fun _ w => w) hb dX0_wouldCome_15 ?_
  refine j_aload_n (pc := 16) hK dX0_wouldCome_16 rfl ?_
  refine xi_getR (pc := 17) (k := 7) hK (fun _ w => w) (by decide) rfl q756 rfl dX0_wouldCome_17 ?_
  refine j_iconst (pc := 20) (v := 1) hK dX0_wouldCome_20 (by decide) ?_
  refine xi_aldL (pc := 21) (i := 1) (n := 9) hK (fun _ w => w) (by decide) rfl (by decide) dX0_wouldCome_21 ?_
  refine j_callV (pc := 22) hK hQ (c_BX9_heldHears (xi_bta (fun _ w => w) hb hB) _) (calB_heldHears (InvB.k5 hB)) (xi_bta (fun _ w => w) hb hB).isC q267 dX0_wouldCome_22 rfl rfl (nle rfl) (nle rfl) (nle rfl) (nle rfl) (kr_i fun r22 => ?_) kx_i
  refine J.pre fun e22 => ?_
  subst e22
  rw [hearB_eq hN hB]
  refine j_icmp_gt (pc := 25) (tgt := 50) hK dX0_wouldCome_25 (by decide) (fun c25 => ?_) (fun c25 => ?_)
  · refine j_iconst (pc := 50) (v := 0) hK dX0_wouldCome_50 (by decide) ?_
    exact j_bret (pc := 51) hK hQ (nle rfl) (nle rfl) dX0_wouldCome_51 (fun h w => ⟨by decide, _, rfl, by first | exact WC_0 c25 | exact WC_1 c34 | exact WC_2 c43 | exact WC_3 c25 c34 c43, w⟩)
  · refine j_aload_n (pc := 28) hK dX0_wouldCome_28 rfl ?_
    refine j_iconst (pc := 29) (v := 1) hK dX0_wouldCome_29 (by decide) ?_
    refine j_iload_n (pc := 30) hK dX0_wouldCome_30 rfl ?_
    refine j_callV (pc := 31) hK hQ (c_XasksG hφ (k := 1) (by decide) (by decide) ho hb) cal_X0_asks (xi_isC (fun _ w => w)) q309 dX0_wouldCome_31 rfl rfl (nle rfl) (nle rfl) (nle rfl) (nle rfl) (kr_i fun r31 => ?_) kx_i
    refine J.pre fun e31 => ?_
    subst e31
    refine j_if_eq (pc := 34) (tgt := 50) hK dX0_wouldCome_34 (by decide) (fun c34 => ?_) (fun c34 => ?_)
    · refine j_iconst (pc := 50) (v := 0) hK dX0_wouldCome_50 (by decide) ?_
      exact j_bret (pc := 51) hK hQ (nle rfl) (nle rfl) dX0_wouldCome_51 (fun h w => ⟨by decide, _, rfl, by first | exact WC_0 c25 | exact WC_1 c34 | exact WC_2 c43 | exact WC_3 c25 c34 c43, w⟩)
    · refine j_aload_n (pc := 37) hK dX0_wouldCome_37 rfl ?_
      refine j_iconst (pc := 38) (v := 2) hK dX0_wouldCome_38 (by decide) ?_
      refine j_iload_n (pc := 39) hK dX0_wouldCome_39 rfl ?_
      refine j_callV (pc := 40) hK hQ (c_XasksG hφ (k := 2) (by decide) (by decide) ho hb) cal_X0_asks (xi_isC (fun _ w => w)) q309 dX0_wouldCome_40 rfl rfl (nle rfl) (nle rfl) (nle rfl) (nle rfl) (kr_i fun r40 => ?_) kx_i
      refine J.pre fun e40 => ?_
      subst e40
      refine j_if_eq (pc := 43) (tgt := 50) hK dX0_wouldCome_43 (by decide) (fun c43 => ?_) (fun c43 => ?_)
      · refine j_iconst (pc := 50) (v := 0) hK dX0_wouldCome_50 (by decide) ?_
        exact j_bret (pc := 51) hK hQ (nle rfl) (nle rfl) dX0_wouldCome_51 (fun h w => ⟨by decide, _, rfl, by first | exact WC_0 c25 | exact WC_1 c34 | exact WC_2 c43 | exact WC_3 c25 c34 c43, w⟩)
      · refine j_iconst (pc := 46) (v := 1) hK dX0_wouldCome_46 (by decide) ?_
        refine j_goto (pc := 47) (tgt := 51) hK dX0_wouldCome_47 (by decide) ?_
        exact j_bret (pc := 51) hK hQ (nle rfl) (nle rfl) dX0_wouldCome_51 (fun h w => ⟨by decide, _, rfl, by first | exact WC_0 c25 | exact WC_1 c34 | exact WC_2 c43 | exact WC_3 c25 c34 c43, w⟩)
theorem c_XwouldCome {b : Int32} (hb : Bo f b) (hN : InvW f) (hB : InvB g b) (ho : OkR f T) : Ct Γ A yX0_wouldCome wX0_wouldCome 173 0 0 [.ref (L 35), .int b] (XI Γ L f g T TT) (RI fun r h => r = b2i (WC f g T b (g 3 b) (f 10)) ∧ XI Γ L f g T TT h) := c_XwouldComeG (fun _ _ _ => trivial) hb hN hB ho
theorem upd_10 (v : Int32) : upd (upd f 10 v) 10 (f 10) = f := by
  funext j
  unfold upd
  by_cases h : j = 10
  · rw [if_pos h, h]
  · rw [if_neg h, if_neg h]
theorem c_XowesAt {b w : Int32} (hb : Bo f b) (hB : InvB g b) (ho : OkR f T) (h0 : -1 ≤ w) (h1 : w ≤ 99999) : Ct Γ A yX0_owesAt wX0_owesAt 174 0 0 [.ref (L 35), .int b, .int w] (XI Γ L f g T TT) (RI fun r h => r = owesI f g T b w ∧ XI Γ L f g T TT h) := by
  refine Ct.ofW (cc := cX0_owesAt) (nL := 6) (ret := (some .int)) (hh := hX0_owesAt) (ls := [some (.ref (L 35)), some (.int b), some (.int w), none, none, none]) rfl rfl rfl (nle rfl) ?_
  intro K hK hQ
  refine j_aload_n (pc := 0) hK dX0_owesAt_0 rfl ?_
  refine xi_getF (pc := 1) (k := 8) (n := 10) hK (fun _ w => w) rfl rfl (by decide) rfl q758 rfl dX0_owesAt_1 ?_
  refine j_ist3 (pc := 4) hK dX0_owesAt_4 (by decide) rfl ?_
  refine j_aload_n (pc := 5) hK dX0_owesAt_5 rfl ?_
  refine j_iload_n (pc := 6) hK dX0_owesAt_6 rfl ?_
  refine xi_putF (pc := 7) (k := 8) (n := 10) hK (by decide) rfl (by decide) rfl (fun _ e => e) q758 rfl rfl rfl rfl dX0_owesAt_7 ?_
  refine j_aload_n (pc := 10) hK dX0_owesAt_10 rfl ?_
  refine xi_getR (pc := 11) (k := 0) hK (fun _ w => w) (by decide) rfl q747 rfl dX0_owesAt_11 ?_
  refine j_iload_n (pc := 14) hK dX0_owesAt_14 rfl ?_
  refine xi_baldB (pc := 15) hK (fun _ w => w) (show Bo (upd f 10 w) b from hb) dX0_owesAt_15 ?_
  refine j_iconst (pc := 16) (v := 0) hK dX0_owesAt_16 (by decide) ?_
  refine j_iload_n (pc := 17) hK dX0_owesAt_17 rfl ?_
  refine j_aload_n (pc := 18) hK dX0_owesAt_18 rfl ?_
  refine j_iload_n (pc := 19) hK dX0_owesAt_19 rfl ?_
  refine j_callV (pc := 20) hK hQ (c_Xdue (fun _ w => w) (show Bo (upd f 10 w) b from hb)) cal_X0_due (xi_isC (fun _ w => w)) q347 dX0_owesAt_20 rfl rfl (nle rfl) (nle rfl) (nle rfl) (nle rfl) (kr_i fun r20 => ?_) kx_i
  refine J.pre fun e20 => ?_
  subst e20
  refine j_isub (pc := 23) hK dX0_owesAt_23 ?_
  refine j_mmax (pc := 24) hK hQ q342 dX0_owesAt_24 (nle rfl) (nle rfl) (nle rfl) ?_
  refine j_aload_n (pc := 27) hK dX0_owesAt_27 rfl ?_
  refine j_iconst (pc := 28) (v := 0) hK dX0_owesAt_28 (by decide) ?_
  refine j_iload_n (pc := 29) hK dX0_owesAt_29 rfl ?_
  refine j_callV (pc := 30) hK hQ (c_Xasks (k := 0) (by decide) (by decide) (ho.upd w (by decide) (by decide)) (show Bo (upd f 10 w) b from hb)) cal_X0_asks (xi_isC (fun _ w => w)) q309 dX0_owesAt_30 rfl rfl (nle rfl) (nle rfl) (nle rfl) (nle rfl) (kr_i fun r30 => ?_) kx_i
  refine J.pre fun e30 => ?_
  subst e30
  refine j_callV (pc := 33) hK hQ (c_BX9_heldOwes (xi_bta (fun _ w => w) (show Bo (upd f 10 w) b from hb) hB) _ _) (calB_heldOwes (InvB.k5 hB)) (xi_bta (fun _ w => w) (show Bo (upd f 10 w) b from hb) hB).isC q348 dX0_owesAt_33 rfl rfl (nle rfl) (nle rfl) (nle rfl) (nle rfl) (kr_i fun r33 => ?_) kx_i
  refine J.pre fun e33 => ?_
  have e33' : r33 = owesI f g T b w := e33.trans (owe_eq hB h0 h1)
  clear e33
  subst e33'
  refine j_ist4 (pc := 36) hK dX0_owesAt_36 (by decide) rfl ?_
  refine j_aload_n (pc := 38) hK dX0_owesAt_38 rfl ?_
  refine j_iload_n (pc := 39) hK dX0_owesAt_39 rfl ?_
  refine xi_putF (pc := 40) (k := 8) (n := 10) hK (by decide) rfl (by decide) rfl (fun _ e => e) q758 rfl rfl rfl rfl dX0_owesAt_40 ?_
  rw [upd_10]
  refine j_iload (pc := 43) hK dX0_owesAt_43 rfl ?_
  exact j_iret (pc := 45) hK hQ (nle rfl) (nle rfl) dX0_owesAt_45 (fun h w => ⟨_, rfl, rfl, w⟩)
theorem c_XcomesIn {b a : Int32} (hb : Bo f b) (h7 : f 0 ≤ 7) (hB : InvB g b) (ho : OkR f T) (h0 : -1 ≤ a) (h1 : a ≤ 99999) : Ct Γ A yX0_comesIn wX0_comesIn 175 0 0 [.ref (L 35), .int b, .int a] (XI Γ L f g T TT) (RV (XI Γ L (comeF f g T b a) (comeG g b a) T TT)) := by
  refine Ct.of (cc := cX0_comesIn) (nL := 3) (ret := none) (ls := [some (.ref (L 35)), some (.int b), some (.int a)]) rfl rfl rfl (nle rfl) ?_
  intro K hK hQ
  refine j_aload_n (pc := 0) hK dX0_comesIn_0 rfl ?_
  refine j_dup (pc := 1) hK dX0_comesIn_1 rfl ?_
  refine xi_getF (pc := 2) (k := 9) (n := 14) hK (fun _ w => w) rfl rfl (by decide) rfl q759 rfl dX0_comesIn_2 ?_
  refine j_aload_n (pc := 5) hK dX0_comesIn_5 rfl ?_
  refine j_iload_n (pc := 6) hK dX0_comesIn_6 rfl ?_
  refine j_iload_n (pc := 7) hK dX0_comesIn_7 rfl ?_
  refine j_callV (pc := 8) hK hQ (c_XowesAt hb hB ho h0 h1) cal_X0_owesAt (xi_isC (fun _ w => w)) q343 dX0_comesIn_8 rfl rfl (nle rfl) (nle rfl) (nle rfl) (nle rfl) (kr_i fun r8 => ?_) kx_i
  refine J.pre fun e8 => ?_
  subst e8
  refine j_iadd (pc := 11) hK dX0_comesIn_11 ?_
  refine xi_putF (pc := 12) (k := 9) (n := 14) hK (by decide) rfl (by decide) rfl (fun _ e => e) q759 rfl rfl rfl rfl dX0_comesIn_12 ?_
  refine j_aload_n (pc := 15) hK dX0_comesIn_15 rfl ?_
  refine xi_getR (pc := 16) (k := 4) hK (fun _ w => w) (by decide) rfl q752 rfl dX0_comesIn_16 ?_
  refine j_iload_n (pc := 19) hK dX0_comesIn_19 rfl ?_
  refine j_iconst (pc := 20) (v := 2) hK dX0_comesIn_20 (by decide) ?_
  refine xi_astB (pc := 21) (k := 4) (n := 6) hK (by decide) rfl rfl rfl (show Bo _ b from hb) (hb.in7 h7) (fun _ e => e) dX0_comesIn_21 ?_
  refine j_aload_n (pc := 22) hK dX0_comesIn_22 rfl ?_
  refine xi_getR (pc := 23) (k := 5) hK (fun _ w => w) (by decide) rfl q753 rfl dX0_comesIn_23 ?_
  refine j_iload_n (pc := 26) hK dX0_comesIn_26 rfl ?_
  refine j_iload_n (pc := 27) hK dX0_comesIn_27 rfl ?_
  refine xi_astB (pc := 28) (k := 5) (n := 7) hK (by decide) rfl rfl rfl (show Bo _ b from hb) (hb.in7 h7) (fun _ e => e) dX0_comesIn_28 ?_
  refine j_aload_n (pc := 29) hK dX0_comesIn_29 rfl ?_
  refine xi_getR (pc := 30) (k := 7) hK (fun _ w => w) (by decide) rfl q756 rfl dX0_comesIn_30 ?_
  refine j_iconst (pc := 33) (v := 4) hK dX0_comesIn_33 (by decide) ?_
  refine j_iconst (pc := 34) (v := 0) hK dX0_comesIn_34 (by decide) ?_
  refine j_aload_n (pc := 35) hK dX0_comesIn_35 rfl ?_
  refine xi_getR (pc := 36) (k := 7) hK (fun _ w => w) (by decide) rfl q756 rfl dX0_comesIn_36 ?_
  refine j_iconst (pc := 39) (v := 4) hK dX0_comesIn_39 (by decide) ?_
  refine xi_aldL (pc := 40) (i := 4) (n := 13) hK (fun _ w => w) (by decide) rfl (by decide) dX0_comesIn_40 ?_
  refine j_iconst (pc := 41) (v := 1) hK dX0_comesIn_41 (by decide) ?_
  refine j_isub (pc := 42) hK dX0_comesIn_42 ?_
  refine j_mmax (pc := 43) hK hQ q342 dX0_comesIn_43 (nle rfl) (nle rfl) (nle rfl) ?_
  refine xi_astL (pc := 46) (i := 4) (n := 13) hK (by decide) rfl (by decide) (fun _ e => e) dX0_comesIn_46 ?_
  exact j_vret (pc := 47) hK hQ (nle rfl) (nle rfl) dX0_comesIn_47 (fun h w => ⟨rfl, w⟩)
theorem c_Xcalls {b : Int32} (hb : Bo f b) (h7 : f 0 ≤ 7) (hN : InvW f) (hB : InvB g b) (ho : OkR f T) : Ct Γ A yX0_calls wX0_calls 174 0 0 [.ref (L 35), .int b] (XI Γ L f g T TT) (RI (XO Γ L T (if ¬ WC f g T b (g 3 b) (f 10) then (0, f, g) else (1, f, ug (ug g 6 b 1) 7 b (f 10 + needI f g b))))) := by
  refine Ct.of (cc := cX0_calls) (nL := 2) (ret := (some .int)) (ls := [some (.ref (L 35)), some (.int b)]) rfl rfl rfl (nle rfl) ?_
  intro K hK hQ
  refine j_aload_n (pc := 0) hK dX0_calls_0 rfl ?_
  refine j_iload_n (pc := 1) hK dX0_calls_1 rfl ?_
  refine j_callV (pc := 2) hK hQ (c_XwouldCome hb hN hB ho) cal_X0_wouldCome (xi_isC (fun _ w => w)) q299 dX0_calls_2 rfl rfl (nle rfl) (nle rfl) (nle rfl) (nle rfl) (kr_i fun r2 => ?_) kx_i
  refine J.pre fun e2 => ?_
  subst e2
  refine j_if_ne_b (pc := 5) (tgt := 10) hK dX0_calls_5 (by decide) (fun c5 => ?_) (fun c5 => ?_)
  · refine j_aload_n (pc := 10) hK dX0_calls_10 rfl ?_
    refine xi_getR (pc := 11) (k := 4) hK (fun _ w => w) (by decide) rfl q752 rfl dX0_calls_11 ?_
    refine j_iload_n (pc := 14) hK dX0_calls_14 rfl ?_
    refine j_iconst (pc := 15) (v := 1) hK dX0_calls_15 (by decide) ?_
    refine xi_astB (pc := 16) (k := 4) (n := 6) hK (by decide) rfl rfl rfl hb (hb.in7 h7) (fun _ e => e) dX0_calls_16 ?_
    refine j_aload_n (pc := 17) hK dX0_calls_17 rfl ?_
    refine xi_getR (pc := 18) (k := 5) hK (fun _ w => w) (by decide) rfl q753 rfl dX0_calls_18 ?_
    refine j_iload_n (pc := 21) hK dX0_calls_21 rfl ?_
    refine j_aload_n (pc := 22) hK dX0_calls_22 rfl ?_
    refine xi_getF (pc := 23) (k := 8) (n := 10) hK (fun _ w => w) rfl rfl (by decide) rfl q758 rfl dX0_calls_23 ?_
    refine j_aload_n (pc := 26) hK dX0_calls_26 rfl ?_
    refine j_iload_n (pc := 27) hK dX0_calls_27 rfl ?_
    refine j_callV (pc := 28) hK hQ (c_Xneeds (fun _ w => w) hb hN (hB.up (by simp) : InvB (ug g 6 b 1) b)) cal_X0_needs (xi_isC (fun _ w => w)) q873 dX0_calls_28 rfl rfl (nle rfl) (nle rfl) (nle rfl) (nle rfl) (kr_i fun r28 => ?_) kx_i
    refine J.pre fun e28 => ?_
    subst e28
    refine j_iadd (pc := 31) hK dX0_calls_31 ?_
    refine xi_astB (pc := 32) (k := 5) (n := 7) hK (by decide) rfl rfl rfl hb (hb.in7 h7) (fun _ e => e) dX0_calls_32 ?_
    refine j_iconst (pc := 33) (v := 1) hK dX0_calls_33 (by decide) ?_
    exact j_iret (pc := 34) hK hQ (nle rfl) (nle rfl) dX0_calls_34 (fun h w => ⟨_, rfl, _, _, by first | rw [if_pos c5] | (rw [if_neg (fun z => z c5)]; rfl), w⟩)
  · refine j_iconst (pc := 8) (v := 0) hK dX0_calls_8 (by decide) ?_
    exact j_iret (pc := 9) hK hQ (nle rfl) (nle rfl) dX0_calls_9 (fun h w => ⟨_, rfl, _, _, by first | rw [if_pos c5] | (rw [if_neg (fun z => z c5)]; rfl), w⟩)
theorem c_Xcall {b : Int32} (hV : XV f g T) : Ct Γ A yX0_call wX0_call 175 0 0 [.ref (L 35), .int b] (XI Γ L f g T TT) (RI (XO Γ L T (oCall f g T b))) := by
  have hN := hV.1.w
  have ho := hV.2.2
  refine Ct.of (cc := cX0_call) (nL := 2) (ret := (some .int)) (ls := [some (.ref (L 35)), some (.int b)]) rfl rfl rfl (nle rfl) ?_
  intro K hK hQ
  refine j_aload_n (pc := 0) hK dX0_call_0 rfl ?_
  refine j_iload_n (pc := 1) hK dX0_call_1 rfl ?_
  refine j_callV (pc := 2) hK hQ (c_XisBoat (fun _ w => w) _) cal_X0_isBoat (xi_isC (fun _ w => w)) q186 dX0_call_2 rfl rfl (nle rfl) (nle rfl) (nle rfl) (nle rfl) (kr_i fun r2 => ?_) kx_i
  refine J.pre fun e2 => ?_
  subst e2
  refine j_if_ne_b (pc := 5) (tgt := 11) hK dX0_call_5 (by decide) (fun c5 => ?_) (fun c5 => ?_)
  · have hb := bo_of c5 hV.1
    have hB := hV.2.1 b hb
    refine j_aload_n (pc := 11) hK dX0_call_11 rfl ?_
    refine xi_getR (pc := 12) (k := 4) hK (fun _ w => w) (by decide) rfl q752 rfl dX0_call_12 ?_
    refine j_iload_n (pc := 15) hK dX0_call_15 rfl ?_
    refine xi_aldB (pc := 16) (k := 4) (n := 6) hK (fun _ w => w) (by decide) rfl rfl rfl rfl hb dX0_call_16 ?_
    refine j_if_ne (pc := 17) (tgt := 28) hK dX0_call_17 (by decide) (fun c17 => ?_) (fun c17 => ?_)
    · refine j_bipush (pc := 28) (v := (-3)) hK dX0_call_28 (by decide) ?_
      exact j_iret (pc := 30) hK hQ (nle rfl) (nle rfl) dX0_call_30 (fun h w => ⟨_, rfl, _, _, by unfold oCall; first | rw [if_pos c5] | (rw [if_neg (fun z => z c5)]; first | rw [if_pos c17] | (rw [if_neg (fun z => z c17)]; exact e22)), w⟩)
    · refine j_aload_n (pc := 20) hK dX0_call_20 rfl ?_
      refine j_iload_n (pc := 21) hK dX0_call_21 rfl ?_
      refine j_callV (pc := 22) hK hQ (c_Xcalls hb hV.1.2.1 hN hB ho) cal_X0_calls (xi_isC (fun _ w => w)) q869 dX0_call_22 rfl rfl (nle rfl) (nle rfl) (nle rfl) (nle rfl) (kr_i fun r22 => ?_) kx_i
      refine J.ex fun f2 => J.ex fun g2 => J.pre fun e22 => ?_
      refine j_goto (pc := 25) (tgt := 30) hK dX0_call_25 (by decide) ?_
      exact j_iret (pc := 30) hK hQ (nle rfl) (nle rfl) dX0_call_30 (fun h w => ⟨_, rfl, _, _, by unfold oCall; first | rw [if_pos c5] | (rw [if_neg (fun z => z c5)]; first | rw [if_pos c17] | (rw [if_neg (fun z => z c17)]; exact e22)), w⟩)
  · refine j_bipush (pc := 8) (v := (-2)) hK dX0_call_8 (by decide) ?_
    exact j_iret (pc := 10) hK hQ (nle rfl) (nle rfl) dX0_call_10 (fun h w => ⟨_, rfl, _, _, by unfold oCall; first | rw [if_pos c5] | (rw [if_neg (fun z => z c5)]; first | rw [if_pos c17] | (rw [if_neg (fun z => z c17)]; exact e22)), w⟩)
theorem min_bd {x : Int32} {n : Nat} (e : x = nI n) (hn : n < 2 ^ 31) : 0 ≤ minI 9999 x ∧ minI 9999 x ≤ 9999 := by
  have : 0 ≤ x := by rw [e]; exact Int32.not_lt.mp (nI_pos hn)
  unfold minI
  split
  · exact ⟨this, by grind⟩
  · exact ⟨by decide, by decide⟩
theorem c_Xpasses {n : Int32} {nb : Nat} (hn : nb ≤ 7) (e0 : f 0 = nI nb) (hV : XV f g T) (hn0 : 0 ≤ n) (hn1 : n ≤ 1000000) : Ct Γ A yX0_passes wX0_passes 176 0 0 [.ref (L 35), .int n] (XI Γ L f g T TT) (RI (XO Γ L T (oPass f g T nb n))) := by
  have hmin : 0 ≤ minI 9999 (f 10 + n) ∧ minI 9999 (f 10 + n) ≤ 9999 := by
    obtain ⟨a, ha, ea⟩ := nI_of2 (M := 9999) (n := 9999) (by decide) (Int32.not_lt.mpr hV.1.2.2.2.2.2.2.1) hV.1.2.2.2.2.2.2.2.1
    obtain ⟨c, hc, ec⟩ := nI_of2 (M := 1000000) (n := 1000000) (by decide) (Int32.not_lt.mpr hn0) hn1
    exact min_bd (n := a + c) (by rw [ea, ec, nI_add]) (by omega)
  refine Ct.of (cc := cX0_passes) (nL := 4) (ret := (some .int)) (ls := [some (.ref (L 35)), some (.int n), none, none]) rfl rfl rfl (nle rfl) ?_
  intro K hK hQ
  have loop : ∀ (r i : Nat) (f1 : Nat → Int32) (g1 : Nat → Int32 → Int32) (m : Int32), i + r = nb → f1 0 = nI nb → XV f1 g1 T → passL T r i f1 g1 m = oPass f g T nb n → J Γ A K 20 [some (.ref (L 35)), some (.int n), some (.int m), some (.int (nI i))] [] (XI Γ L f1 g1 T TT) 0 0 := by
    intro r
    induction r with
    | zero =>
      intro i f1 g1 m hi e1 hV hp
      refine j_iload_n (pc := 20) hK dX0_passes_20 rfl ?_
      refine j_aload_n (pc := 21) hK dX0_passes_21 rfl ?_
      refine xi_getF (pc := 22) (k := 6) (n := 0) hK (fun _ w => w) rfl rfl (by decide) rfl q754 rfl dX0_passes_22 ?_
      refine j_icmp_ge (pc := 25) (tgt := 74) hK dX0_passes_25 (by decide) (fun c25 => ?_) (fun c25 => absurd (by rw [e1]; exact nI_le (by omega) (by omega)) c25)
      refine j_iload_n (pc := 74) hK dX0_passes_74 rfl ?_
      exact j_iret (pc := 75) hK hQ (nle rfl) (nle rfl) dX0_passes_75 (fun h w => ⟨_, rfl, _, _, hp.symm, w⟩)
    | succ r ih =>
      intro i f1 g1 m hi e1 hV hp
      have hb : Bo f1 (nI i) := bo_nI e1 (by omega) (by omega)
      have hB := hV.2.1 _ hb
      refine j_iload_n (pc := 20) hK dX0_passes_20 rfl ?_
      refine j_aload_n (pc := 21) hK dX0_passes_21 rfl ?_
      refine xi_getF (pc := 22) (k := 6) (n := 0) hK (fun _ w => w) rfl rfl (by decide) rfl q754 rfl dX0_passes_22 ?_
      refine j_icmp_ge (pc := 25) (tgt := 74) hK dX0_passes_25 (by decide) (fun c25 => absurd c25 (by rw [e1]; exact nI_ge (by omega) (by omega))) (fun c25 => ?_)
      refine j_aload_n (pc := 28) hK dX0_passes_28 rfl ?_
      refine xi_getR (pc := 29) (k := 4) hK (fun _ w => w) (by decide) rfl q752 rfl dX0_passes_29 ?_
      refine j_iload_n (pc := 32) hK dX0_passes_32 rfl ?_
      refine xi_aldB (pc := 33) (k := 4) (n := 6) hK (fun _ w => w) (by decide) rfl rfl rfl rfl hb dX0_passes_33 ?_
      refine j_iconst (pc := 34) (v := 1) hK dX0_passes_34 (by decide) ?_
      refine j_icmp_ne (pc := 35) (tgt := 68) hK dX0_passes_35 (by decide) (fun c35 => ?_) (fun c35 => ?_)
      · have hp' := hp
        first | rw [passL_n1 c35] at hp' | rw [passL_n2 c48] at hp' | rw [passL_p c35 c48] at hp'
        refine j_iinc3 (pc := 68) (v := 1) hK dX0_passes_68 (by decide) rfl (by decide) ?_
        refine j_goto (pc := 71) (tgt := 20) hK dX0_passes_71 (by decide) ?_
        rw [nI_1]
        first | exact ih (i + 1) _ _ _ (by omega) e1 hV hp' | exact ih (i + 1) _ _ _ (by omega) e1 (hV.come hB.2.2.2.2.2.2.2.2.2.2.2.2.1 hB.2.2.2.2.2.2.2.2.2.2.2.2.2) hp'
      · refine j_aload_n (pc := 38) hK dX0_passes_38 rfl ?_
        refine xi_getR (pc := 39) (k := 5) hK (fun _ w => w) (by decide) rfl q753 rfl dX0_passes_39 ?_
        refine j_iload_n (pc := 42) hK dX0_passes_42 rfl ?_
        refine xi_aldB (pc := 43) (k := 5) (n := 7) hK (fun _ w => w) (by decide) rfl rfl rfl rfl hb dX0_passes_43 ?_
        refine j_aload_n (pc := 44) hK dX0_passes_44 rfl ?_
        refine xi_getF (pc := 45) (k := 8) (n := 10) hK (fun _ w => w) rfl rfl (by decide) rfl q758 rfl dX0_passes_45 ?_
        refine j_icmp_le (pc := 48) (tgt := 54) hK dX0_passes_48 (by decide) (fun c48 => ?_) (fun c48 => ?_)
        · refine j_aload_n (pc := 54) hK dX0_passes_54 rfl ?_
          refine j_iload_n (pc := 55) hK dX0_passes_55 rfl ?_
          refine j_aload_n (pc := 56) hK dX0_passes_56 rfl ?_
          refine xi_getR (pc := 57) (k := 5) hK (fun _ w => w) (by decide) rfl q753 rfl dX0_passes_57 ?_
          refine j_iload_n (pc := 60) hK dX0_passes_60 rfl ?_
          refine xi_aldB (pc := 61) (k := 5) (n := 7) hK (fun _ w => w) (by decide) rfl rfl rfl rfl hb dX0_passes_61 ?_
          refine j_callV (pc := 62) hK hQ (c_XcomesIn hb hV.1.2.1 hB hV.2.2 hB.2.2.2.2.2.2.2.2.2.2.2.2.1 hB.2.2.2.2.2.2.2.2.2.2.2.2.2) cal_X0_comesIn (xi_isC (fun _ w => w)) q885 dX0_passes_62 rfl rfl (nle rfl) (nle rfl) (nle rfl) (nle rfl) (kr_v ?_) kx_v
          refine J.at (pc2 := 65) rfl ?_
          refine j_iinc2 (pc := 65) (v := 1) hK dX0_passes_65 (by decide) rfl (by decide) ?_
          have hp' := hp
          first | rw [passL_n1 c35] at hp' | rw [passL_n2 c48] at hp' | rw [passL_p c35 c48] at hp'
          refine j_iinc3 (pc := 68) (v := 1) hK dX0_passes_68 (by decide) rfl (by decide) ?_
          refine j_goto (pc := 71) (tgt := 20) hK dX0_passes_71 (by decide) ?_
          rw [nI_1]
          first | exact ih (i + 1) _ _ _ (by omega) e1 hV hp' | exact ih (i + 1) _ _ _ (by omega) e1 (hV.come hB.2.2.2.2.2.2.2.2.2.2.2.2.1 hB.2.2.2.2.2.2.2.2.2.2.2.2.2) hp'
        · refine j_goto (pc := 51) (tgt := 68) hK dX0_passes_51 (by decide) ?_
          have hp' := hp
          first | rw [passL_n1 c35] at hp' | rw [passL_n2 c48] at hp' | rw [passL_p c35 c48] at hp'
          refine j_iinc3 (pc := 68) (v := 1) hK dX0_passes_68 (by decide) rfl (by decide) ?_
          refine j_goto (pc := 71) (tgt := 20) hK dX0_passes_71 (by decide) ?_
          rw [nI_1]
          first | exact ih (i + 1) _ _ _ (by omega) e1 hV hp' | exact ih (i + 1) _ _ _ (by omega) e1 (hV.come hB.2.2.2.2.2.2.2.2.2.2.2.2.1 hB.2.2.2.2.2.2.2.2.2.2.2.2.2) hp'
  refine j_aload_n (pc := 0) hK dX0_passes_0 rfl ?_
  refine j_sipush (pc := 1) (v := 9999) hK dX0_passes_1 (by decide) ?_
  refine j_aload_n (pc := 4) hK dX0_passes_4 rfl ?_
  refine xi_getF (pc := 5) (k := 8) (n := 10) hK (fun _ w => w) rfl rfl (by decide) rfl q758 rfl dX0_passes_5 ?_
  refine j_iload_n (pc := 8) hK dX0_passes_8 rfl ?_
  refine j_iadd (pc := 9) hK dX0_passes_9 ?_
  refine j_mmin (pc := 10) hK hQ q339 dX0_passes_10 (nle rfl) (nle rfl) (nle rfl) ?_
  refine xi_putF (pc := 13) (k := 8) (n := 10) hK (by decide) rfl (by decide) rfl (fun _ e => e) q758 rfl rfl rfl rfl dX0_passes_13 ?_
  refine j_iconst (pc := 16) (v := 0) hK dX0_passes_16 (by decide) ?_
  refine j_ist2 (pc := 17) hK dX0_passes_17 (by decide) rfl ?_
  refine j_iconst (pc := 18) (v := 0) hK dX0_passes_18 (by decide) ?_
  refine j_ist3 (pc := 19) hK dX0_passes_19 (by decide) rfl ?_
  exact loop nb 0 _ _ _ (by omega) e0 (hV.upd (by right; right; left; exact ⟨rfl, hmin⟩)) rfl
theorem c_Xtime {n : Int32} {nb : Nat} (hn : nb ≤ 7) (e0 : f 0 = nI nb) (hV : XV f g T) : Ct Γ A yX0_time wX0_time 177 0 0 [.ref (L 35), .int n] (XI Γ L f g T TT) (RI (XO Γ L T (oTime f g T nb n))) := by
  refine Ct.of (cc := cX0_time) (nL := 2) (ret := (some .int)) (ls := [some (.ref (L 35)), some (.int n)]) rfl rfl rfl (nle rfl) ?_
  intro K hK hQ
  refine j_iload_n (pc := 0) hK dX0_time_0 rfl ?_
  refine j_i2l (pc := 1) hK dX0_time_1 ?_
  refine j_lconst (pc := 2) (v := 0) hK dX0_time_2 (by decide) ?_
  refine j_ldc2 (pc := 3) hK q113 dX0_time_3 ?_
  refine j_callS (pc := 6) hK hQ (c_Xin (l := 0) (u := 240) (by decide) (by decide)) cal_X0_in q106 dX0_time_6 rfl rfl (nle rfl) (nle rfl) (nle rfl) (nle rfl) (kr_i fun r6 => ?_) kx_i
  refine J.pre fun e6 => ?_
  subst e6
  refine j_if_eq_b (pc := 9) (tgt := 20) hK dX0_time_9 (by decide) (fun c9 => ?_) (fun c9 => ?_)
  · refine j_bipush (pc := 20) (v := (-2)) hK dX0_time_20 (by decide) ?_
    exact j_iret (pc := 22) hK hQ (nle rfl) (nle rfl) dX0_time_22 (fun h w => ⟨_, rfl, _, _, by unfold oTime; first | rw [if_pos c9] | (rw [if_neg (fun z => z c9)]; exact e14), w⟩)
  · refine j_aload_n (pc := 12) hK dX0_time_12 rfl ?_
    refine j_iload_n (pc := 13) hK dX0_time_13 rfl ?_
    refine j_callV (pc := 14) hK hQ (c_Xpasses hn e0 hV c9.1 (Int32.le_trans c9.2 (by decide))) cal_X0_passes (xi_isC (fun _ w => w)) q881 dX0_time_14 rfl rfl (nle rfl) (nle rfl) (nle rfl) (nle rfl) (kr_i fun r14 => ?_) kx_i
    refine J.ex fun f2 => J.ex fun g2 => J.pre fun e14 => ?_
    refine j_goto (pc := 17) (tgt := 22) hK dX0_time_17 (by decide) ?_
    exact j_iret (pc := 22) hK hQ (nle rfl) (nle rfl) dX0_time_22 (fun h w => ⟨_, rfl, _, _, by unfold oTime; first | rw [if_pos c9] | (rw [if_neg (fun z => z c9)]; exact e14), w⟩)
theorem c_Xnobody {nb : Nat} (hn : nb ≤ 7) (e0 : f 0 = nI nb) (hV : XV f g T) : Ct Γ A yX0_nobody wX0_nobody 174 0 0 [.ref (L 35)] (XI Γ L f g T TT) (RI fun r h => r = nobS f g T nb ∧ XI Γ L f g T TT h) := by
  have hN := hV.1.w
  have ho := hV.2.2
  refine Ct.of (cc := cX0_nobody) (nL := 3) (ret := (some .int)) (ls := [some (.ref (L 35)), none, none]) rfl rfl rfl (nle rfl) ?_
  intro K hK hQ
  have loop : ∀ (n i : Nat), i + n = nb → J Γ A K 4 [some (.ref (L 35)), some (.int (nobS f g T i)), some (.int (nI i))] [] (XI Γ L f g T TT) 0 0 := by
    intro n
    induction n with
    | zero =>
      intro i hi
      refine j_iload_n (pc := 4) hK dX0_nobody_4 rfl ?_
      refine j_aload_n (pc := 5) hK dX0_nobody_5 rfl ?_
      refine xi_getF (pc := 6) (k := 6) (n := 0) hK (fun _ w => w) rfl rfl (by decide) rfl q754 rfl dX0_nobody_6 ?_
      refine j_icmp_ge (pc := 9) (tgt := 45) hK dX0_nobody_9 (by decide) (fun c9 => ?_) (fun c9 => absurd (by rw [e0]; exact nI_le (by omega) (by omega)) c9)
      refine j_iload_n (pc := 45) hK dX0_nobody_45 rfl ?_
      exact j_iret (pc := 46) hK hQ (nle rfl) (nle rfl) dX0_nobody_46 (fun h w => ⟨_, rfl, by rw [show i = nb by omega], w⟩)
    | succ n ih =>
      intro i hi
      have hb : Bo f (nI i) := bo_nI e0 (by omega) hn
      have hB := hV.2.1 _ hb
      refine j_iload_n (pc := 4) hK dX0_nobody_4 rfl ?_
      refine j_aload_n (pc := 5) hK dX0_nobody_5 rfl ?_
      refine xi_getF (pc := 6) (k := 6) (n := 0) hK (fun _ w => w) rfl rfl (by decide) rfl q754 rfl dX0_nobody_6 ?_
      refine j_icmp_ge (pc := 9) (tgt := 45) hK dX0_nobody_9 (by decide) (fun c9 => absurd c9 (by rw [e0]; exact nI_ge (by omega) (by omega))) (fun c9 => ?_)
      refine j_iload_n (pc := 12) hK dX0_nobody_12 rfl ?_
      refine j_aload_n (pc := 13) hK dX0_nobody_13 rfl ?_
      refine xi_getR (pc := 14) (k := 4) hK (fun _ w => w) (by decide) rfl q752 rfl dX0_nobody_14 ?_
      refine j_iload_n (pc := 17) hK dX0_nobody_17 rfl ?_
      refine xi_aldB (pc := 18) (k := 4) (n := 6) hK (fun _ w => w) (by decide) rfl rfl rfl rfl hb dX0_nobody_18 ?_
      refine j_if_ne (pc := 19) (tgt := 36) hK dX0_nobody_19 (by decide) (fun c19 => ?_) (fun c19 => ?_)
      · refine j_iconst (pc := 36) (v := 0) hK dX0_nobody_36 (by decide) ?_
        refine j_ior (pc := 37) hK dX0_nobody_37 ?_
        refine j_ist1 (pc := 38) hK dX0_nobody_38 (by decide) rfl ?_
        refine j_iinc2 (pc := 39) (v := 1) hK dX0_nobody_39 (by decide) rfl (by decide) ?_
        refine j_goto (pc := 42) (tgt := 4) hK dX0_nobody_42 (by decide) ?_
        rw [nI_1]
        first | (rw [Int32.or_zero, ← nobS_n1 c19]; exact ih (i + 1) (by omega)) | (rw [Int32.or_zero, ← nobS_n2 c27]; exact ih (i + 1) (by omega)) | (rw [← nobS_p c19 c27]; exact ih (i + 1) (by omega))
      · refine j_aload_n (pc := 22) hK dX0_nobody_22 rfl ?_
        refine j_iload_n (pc := 23) hK dX0_nobody_23 rfl ?_
        refine j_callV (pc := 24) hK hQ (c_XwouldCome hb hN hB ho) cal_X0_wouldCome (xi_isC (fun _ w => w)) q299 dX0_nobody_24 rfl rfl (nle rfl) (nle rfl) (nle rfl) (nle rfl) (kr_i fun r24 => ?_) kx_i
        refine J.pre fun e24 => ?_
        subst e24
        refine j_if_ne_b (pc := 27) (tgt := 36) hK dX0_nobody_27 (by decide) (fun c27 => ?_) (fun c27 => ?_)
        · refine j_iconst (pc := 36) (v := 0) hK dX0_nobody_36 (by decide) ?_
          refine j_ior (pc := 37) hK dX0_nobody_37 ?_
          refine j_ist1 (pc := 38) hK dX0_nobody_38 (by decide) rfl ?_
          refine j_iinc2 (pc := 39) (v := 1) hK dX0_nobody_39 (by decide) rfl (by decide) ?_
          refine j_goto (pc := 42) (tgt := 4) hK dX0_nobody_42 (by decide) ?_
          rw [nI_1]
          first | (rw [Int32.or_zero, ← nobS_n1 c19]; exact ih (i + 1) (by omega)) | (rw [Int32.or_zero, ← nobS_n2 c27]; exact ih (i + 1) (by omega)) | (rw [← nobS_p c19 c27]; exact ih (i + 1) (by omega))
        · refine j_iconst (pc := 30) (v := 1) hK dX0_nobody_30 (by decide) ?_
          refine j_iload_n (pc := 31) hK dX0_nobody_31 rfl ?_
          refine j_ishl (pc := 32) hK dX0_nobody_32 ?_
          refine j_goto (pc := 33) (tgt := 37) hK dX0_nobody_33 (by decide) ?_
          refine j_ior (pc := 37) hK dX0_nobody_37 ?_
          refine j_ist1 (pc := 38) hK dX0_nobody_38 (by decide) rfl ?_
          refine j_iinc2 (pc := 39) (v := 1) hK dX0_nobody_39 (by decide) rfl (by decide) ?_
          refine j_goto (pc := 42) (tgt := 4) hK dX0_nobody_42 (by decide) ?_
          rw [nI_1]
          first | (rw [Int32.or_zero, ← nobS_n1 c19]; exact ih (i + 1) (by omega)) | (rw [Int32.or_zero, ← nobS_n2 c27]; exact ih (i + 1) (by omega)) | (rw [← nobS_p c19 c27]; exact ih (i + 1) (by omega))
  refine j_iconst (pc := 0) (v := 0) hK dX0_nobody_0 (by decide) ?_
  refine j_ist1 (pc := 1) hK dX0_nobody_1 (by decide) rfl ?_
  refine j_iconst (pc := 2) (v := 0) hK dX0_nobody_2 (by decide) ?_
  refine j_ist2 (pc := 3) hK dX0_nobody_3 (by decide) rfl ?_
  exact loop nb 0 (by omega)
def lakS (g : Nat → Int32 → Int32) : Nat → Int32
  | 0 => 0
  | i + 1 => if g 6 (nI i) = 0 then lakS g i ||| (1 <<< (nI i &&& 31)) else lakS g i
theorem c_XonLake {nb : Nat} (hn : nb ≤ 7) (e0 : f 0 = nI nb) : Ct Γ A yX0_onLake wX0_onLake 1 0 0 [.ref (L 35)] (XI Γ L f g T TT) (RI fun r h => r = lakS g nb ∧ XI Γ L f g T TT h) := by
  refine Ct.of (cc := cX0_onLake) (nL := 3) (ret := (some .int)) (ls := [some (.ref (L 35)), none, none]) rfl rfl rfl (nle rfl) ?_
  intro K hK hQ
  have loop : ∀ (n i : Nat), i + n = nb → J Γ A K 4 [some (.ref (L 35)), some (.int (lakS g i)), some (.int (nI i))] [] (XI Γ L f g T TT) 0 0 := by
    intro n
    induction n with
    | zero =>
      intro i hi
      refine j_iload_n (pc := 4) hK dX0_onLake_4 rfl ?_
      refine j_aload_n (pc := 5) hK dX0_onLake_5 rfl ?_
      refine xi_getF (pc := 6) (k := 6) (n := 0) hK (fun _ w => w) rfl rfl (by decide) rfl q754 rfl dX0_onLake_6 ?_
      refine j_icmp_ge (pc := 9) (tgt := 37) hK dX0_onLake_9 (by decide) (fun c9 => ?_) (fun c9 => absurd (by rw [e0]; exact nI_le (by omega) (by omega)) c9)
      refine j_iload_n (pc := 37) hK dX0_onLake_37 rfl ?_
      exact j_iret (pc := 38) hK hQ (nle rfl) (nle rfl) dX0_onLake_38 (fun h w => ⟨_, rfl, by rw [show i = nb by omega], w⟩)
    | succ n ih =>
      intro i hi
      have hb : Bo f (nI i) := bo_nI e0 (by omega) hn
      refine j_iload_n (pc := 4) hK dX0_onLake_4 rfl ?_
      refine j_aload_n (pc := 5) hK dX0_onLake_5 rfl ?_
      refine xi_getF (pc := 6) (k := 6) (n := 0) hK (fun _ w => w) rfl rfl (by decide) rfl q754 rfl dX0_onLake_6 ?_
      refine j_icmp_ge (pc := 9) (tgt := 37) hK dX0_onLake_9 (by decide) (fun c9 => absurd c9 (by rw [e0]; exact nI_ge (by omega) (by omega))) (fun c9 => ?_)
      refine j_iload_n (pc := 12) hK dX0_onLake_12 rfl ?_
      refine j_aload_n (pc := 13) hK dX0_onLake_13 rfl ?_
      refine xi_getR (pc := 14) (k := 4) hK (fun _ w => w) (by decide) rfl q752 rfl dX0_onLake_14 ?_
      refine j_iload_n (pc := 17) hK dX0_onLake_17 rfl ?_
      refine xi_aldB (pc := 18) (k := 4) (n := 6) hK (fun _ w => w) (by decide) rfl rfl rfl rfl hb dX0_onLake_18 ?_
      refine j_if_ne (pc := 19) (tgt := 28) hK dX0_onLake_19 (by decide) (fun c19 => ?_) (fun c19 => ?_)
      · refine j_iconst (pc := 28) (v := 0) hK dX0_onLake_28 (by decide) ?_
        refine j_ior (pc := 29) hK dX0_onLake_29 ?_
        refine j_ist1 (pc := 30) hK dX0_onLake_30 (by decide) rfl ?_
        refine j_iinc2 (pc := 31) (v := 1) hK dX0_onLake_31 (by decide) rfl (by decide) ?_
        refine j_goto (pc := 34) (tgt := 4) hK dX0_onLake_34 (by decide) ?_
        rw [nI_1]
        first | (rw [Int32.or_zero, show lakS g i = lakS g (i + 1) from (if_neg c19).symm]; exact ih (i + 1) (by omega)) | (rw [show lakS g i ||| (1 <<< (nI i &&& 31)) = lakS g (i + 1) from (if_pos c19).symm]; exact ih (i + 1) (by omega))
      · refine j_iconst (pc := 22) (v := 1) hK dX0_onLake_22 (by decide) ?_
        refine j_iload_n (pc := 23) hK dX0_onLake_23 rfl ?_
        refine j_ishl (pc := 24) hK dX0_onLake_24 ?_
        refine j_goto (pc := 25) (tgt := 29) hK dX0_onLake_25 (by decide) ?_
        refine j_ior (pc := 29) hK dX0_onLake_29 ?_
        refine j_ist1 (pc := 30) hK dX0_onLake_30 (by decide) rfl ?_
        refine j_iinc2 (pc := 31) (v := 1) hK dX0_onLake_31 (by decide) rfl (by decide) ?_
        refine j_goto (pc := 34) (tgt := 4) hK dX0_onLake_34 (by decide) ?_
        rw [nI_1]
        first | (rw [Int32.or_zero, show lakS g i = lakS g (i + 1) from (if_neg c19).symm]; exact ih (i + 1) (by omega)) | (rw [show lakS g i ||| (1 <<< (nI i &&& 31)) = lakS g (i + 1) from (if_pos c19).symm]; exact ih (i + 1) (by omega))
  refine j_iconst (pc := 0) (v := 0) hK dX0_onLake_0 (by decide) ?_
  refine j_ist1 (pc := 1) hK dX0_onLake_1 (by decide) rfl ?_
  refine j_iconst (pc := 2) (v := 0) hK dX0_onLake_2 (by decide) ?_
  refine j_ist2 (pc := 3) hK dX0_onLake_3 (by decide) rfl ?_
  exact loop nb 0 (by omega)
theorem c_XwouldBeInF {φ : XD → Prop} (hφ : ∀ x v, φ x → φ (xpF x 11 v)) {b : Int32} (hb : Bo f b) (hN : InvW f) (hB : InvB g b) (ho : OkR f T) : Ct Γ A yX0_wouldBeIn wX0_wouldBeIn 174 0 0 [.ref (L 35), .int b] (XI Γ L f g T φ) (RI fun r h => r = wbiI f g T b ∧ XI Γ L f g T φ h) := by
  refine Ct.of (cc := cX0_wouldBeIn) (nL := 2) (ret := (some .int)) (ls := [some (.ref (L 35)), some (.int b)]) rfl rfl rfl (nle rfl) ?_
  intro K hK hQ
  refine j_aload_n (pc := 0) hK dX0_wouldBeIn_0 rfl ?_
  refine xi_getR (pc := 1) (k := 4) hK (fun _ w => w) (by decide) rfl q752 rfl dX0_wouldBeIn_1 ?_
  refine j_iload_n (pc := 4) hK dX0_wouldBeIn_4 rfl ?_
  refine xi_aldB (pc := 5) (k := 4) (n := 6) hK (fun _ w => w) (by decide) rfl rfl rfl rfl hb dX0_wouldBeIn_5 ?_
  refine j_iconst (pc := 6) (v := 1) hK dX0_wouldBeIn_6 (by decide) ?_
  refine j_icmp_ne (pc := 7) (tgt := 19) hK dX0_wouldBeIn_7 (by decide) (fun c7 => ?_) (fun c7 => ?_)
  · refine j_aload_n (pc := 19) hK dX0_wouldBeIn_19 rfl ?_
    refine xi_getR (pc := 20) (k := 4) hK (fun _ w => w) (by decide) rfl q752 rfl dX0_wouldBeIn_20 ?_
    refine j_iload_n (pc := 23) hK dX0_wouldBeIn_23 rfl ?_
    refine xi_aldB (pc := 24) (k := 4) (n := 6) hK (fun _ w => w) (by decide) rfl rfl rfl rfl hb dX0_wouldBeIn_24 ?_
    refine j_if_ne (pc := 25) (tgt := 49) hK dX0_wouldBeIn_25 (by decide) (fun c25 => ?_) (fun c25 => ?_)
    · refine j_iconst (pc := 49) (v := (-1)) hK dX0_wouldBeIn_49 (by decide) ?_
      exact j_iret (pc := 50) hK hQ (nle rfl) (nle rfl) dX0_wouldBeIn_50 (fun h w => ⟨_, rfl, by first | exact wbi_a c7 | exact wbi_b c7 c25 | exact wbi_c c7 c33 | exact wbi_d c7 c25 c33, w⟩)
    · refine j_aload_n (pc := 28) hK dX0_wouldBeIn_28 rfl ?_
      refine j_iload_n (pc := 29) hK dX0_wouldBeIn_29 rfl ?_
      refine j_callV (pc := 30) hK hQ (c_XwouldComeG hφ hb hN hB ho) cal_X0_wouldCome (xi_isC (fun _ w => w)) q299 dX0_wouldBeIn_30 rfl rfl (nle rfl) (nle rfl) (nle rfl) (nle rfl) (kr_i fun r30 => ?_) kx_i
      refine J.pre fun e30 => ?_
      subst e30
      refine j_if_eq_b (pc := 33) (tgt := 49) hK dX0_wouldBeIn_33 (by decide) (fun c33 => ?_) (fun c33 => ?_)
      · refine j_iconst (pc := 49) (v := (-1)) hK dX0_wouldBeIn_49 (by decide) ?_
        exact j_iret (pc := 50) hK hQ (nle rfl) (nle rfl) dX0_wouldBeIn_50 (fun h w => ⟨_, rfl, by first | exact wbi_a c7 | exact wbi_b c7 c25 | exact wbi_c c7 c33 | exact wbi_d c7 c25 c33, w⟩)
      · refine j_aload_n (pc := 36) hK dX0_wouldBeIn_36 rfl ?_
        refine xi_getF (pc := 37) (k := 8) (n := 10) hK (fun _ w => w) rfl rfl (by decide) rfl q758 rfl dX0_wouldBeIn_37 ?_
        refine j_aload_n (pc := 40) hK dX0_wouldBeIn_40 rfl ?_
        refine j_iload_n (pc := 41) hK dX0_wouldBeIn_41 rfl ?_
        refine j_callV (pc := 42) hK hQ (c_Xneeds (fun _ w => w) hb hN hB) cal_X0_needs (xi_isC (fun _ w => w)) q873 dX0_wouldBeIn_42 rfl rfl (nle rfl) (nle rfl) (nle rfl) (nle rfl) (kr_i fun r42 => ?_) kx_i
        refine J.pre fun e42 => ?_
        subst e42
        refine j_iadd (pc := 45) hK dX0_wouldBeIn_45 ?_
        refine j_goto (pc := 46) (tgt := 50) hK dX0_wouldBeIn_46 (by decide) ?_
        exact j_iret (pc := 50) hK hQ (nle rfl) (nle rfl) dX0_wouldBeIn_50 (fun h w => ⟨_, rfl, by first | exact wbi_a c7 | exact wbi_b c7 c25 | exact wbi_c c7 c33 | exact wbi_d c7 c25 c33, w⟩)
  · refine j_aload_n (pc := 10) hK dX0_wouldBeIn_10 rfl ?_
    refine xi_getR (pc := 11) (k := 5) hK (fun _ w => w) (by decide) rfl q753 rfl dX0_wouldBeIn_11 ?_
    refine j_iload_n (pc := 14) hK dX0_wouldBeIn_14 rfl ?_
    refine xi_aldB (pc := 15) (k := 5) (n := 7) hK (fun _ w => w) (by decide) rfl rfl rfl rfl hb dX0_wouldBeIn_15 ?_
    refine j_goto (pc := 16) (tgt := 50) hK dX0_wouldBeIn_16 (by decide) ?_
    exact j_iret (pc := 50) hK hQ (nle rfl) (nle rfl) dX0_wouldBeIn_50 (fun h w => ⟨_, rfl, by first | exact wbi_a c7 | exact wbi_b c7 c25 | exact wbi_c c7 c33 | exact wbi_d c7 c25 c33, w⟩)
theorem c_XwouldBeIn {b : Int32} (hb : Bo f b) (hN : InvW f) (hB : InvB g b) (ho : OkR f T) : Ct Γ A yX0_wouldBeIn wX0_wouldBeIn 174 0 0 [.ref (L 35), .int b] (XI Γ L f g T TT) (RI fun r h => r = wbiI f g T b ∧ XI Γ L f g T TT h) := c_XwouldBeInF (fun _ _ _ => trivial) hb hN hB ho
theorem c_XallIn {nb : Nat} (hn : nb ≤ 7) (e0 : f 0 = nI nb) (hV : XV f g T) : Ct Γ A yX0_allIn wX0_allIn 175 0 0 [.ref (L 35)] (XI Γ L f g T TT) (RI fun r h => r = allS f g T nb ∧ XI Γ L f g T TT h) := by
  have hN := hV.1.w
  have ho := hV.2.2
  refine Ct.of (cc := cX0_allIn) (nL := 3) (ret := (some .int)) (ls := [some (.ref (L 35)), none, none]) rfl rfl rfl (nle rfl) ?_
  intro K hK hQ
  have loop : ∀ (n i : Nat), i + n = nb → J Γ A K 7 [some (.ref (L 35)), some (.int (allS f g T i)), some (.int (nI i))] [] (XI Γ L f g T TT) 0 0 := by
    intro n
    induction n with
    | zero =>
      intro i hi
      refine j_iload_n (pc := 7) hK dX0_allIn_7 rfl ?_
      refine j_aload_n (pc := 8) hK dX0_allIn_8 rfl ?_
      refine xi_getF (pc := 9) (k := 6) (n := 0) hK (fun _ w => w) rfl rfl (by decide) rfl q754 rfl dX0_allIn_9 ?_
      refine j_icmp_ge (pc := 12) (tgt := 31) hK dX0_allIn_12 (by decide) (fun c12 => ?_) (fun c12 => absurd (by rw [e0]; exact nI_le (by omega) (by omega)) c12)
      refine j_iload_n (pc := 31) hK dX0_allIn_31 rfl ?_
      exact j_iret (pc := 32) hK hQ (nle rfl) (nle rfl) dX0_allIn_32 (fun h w => ⟨_, rfl, by rw [show i = nb by omega], w⟩)
    | succ n ih =>
      intro i hi
      have hb : Bo f (nI i) := bo_nI e0 (by omega) hn
      have hB := hV.2.1 _ hb
      refine j_iload_n (pc := 7) hK dX0_allIn_7 rfl ?_
      refine j_aload_n (pc := 8) hK dX0_allIn_8 rfl ?_
      refine xi_getF (pc := 9) (k := 6) (n := 0) hK (fun _ w => w) rfl rfl (by decide) rfl q754 rfl dX0_allIn_9 ?_
      refine j_icmp_ge (pc := 12) (tgt := 31) hK dX0_allIn_12 (by decide) (fun c12 => absurd c12 (by rw [e0]; exact nI_ge (by omega) (by omega))) (fun c12 => ?_)
      refine j_iload_n (pc := 15) hK dX0_allIn_15 rfl ?_
      refine j_aload_n (pc := 16) hK dX0_allIn_16 rfl ?_
      refine j_iload_n (pc := 17) hK dX0_allIn_17 rfl ?_
      refine j_callV (pc := 18) hK hQ (c_XwouldBeIn hb hN hB ho) cal_X0_wouldBeIn (xi_isC (fun _ w => w)) q901 dX0_allIn_18 rfl rfl (nle rfl) (nle rfl) (nle rfl) (nle rfl) (kr_i fun r18 => ?_) kx_i
      refine J.pre fun e18 => ?_
      subst e18
      refine j_mmax (pc := 21) hK hQ q342 dX0_allIn_21 (nle rfl) (nle rfl) (nle rfl) ?_
      refine j_ist1 (pc := 24) hK dX0_allIn_24 (by decide) rfl ?_
      refine j_iinc2 (pc := 25) (v := 1) hK dX0_allIn_25 (by decide) rfl (by decide) ?_
      refine j_goto (pc := 28) (tgt := 7) hK dX0_allIn_28 (by decide) ?_
      rw [nI_1]
      exact ih (i + 1) (by omega)
  refine j_aload_n (pc := 0) hK dX0_allIn_0 rfl ?_
  refine xi_getF (pc := 1) (k := 8) (n := 10) hK (fun _ w => w) rfl rfl (by decide) rfl q758 rfl dX0_allIn_1 ?_
  refine j_ist1 (pc := 4) hK dX0_allIn_4 (by decide) rfl ?_
  refine j_iconst (pc := 5) (v := 0) hK dX0_allIn_5 (by decide) ?_
  refine j_ist2 (pc := 6) hK dX0_allIn_6 (by decide) rfl ?_
  exact loop nb 0 (by omega)
end X58
