/-! the class: feed, and boats are made -/
set_option maxRecDepth 100000
section X70
variable {Γ : Gam} {A : Nat → Prop} {L : Nat → Nat} {f : Nat → Int32} {g : Nat → Int32 → Int32} {T : TX} {P : PH → Prop}
theorem by_255 : ∀ c, c < 256 → (nI c).toInt8.toInt32.toInt8.toInt32 &&& 255 = nI c := by decide +kernel
theorem XR.feed {x : XD} {n c : Nat} (r : XR f g x) (hn : f 15 = nI n) (hn2 : n < 160) (hc : c < 256) : XR (upd f 15 (f 15 + 1)) (ug g 16 (f 15) (nI c)) (xpF (xpA x 16 (f 15) (nI c).toInt8.toInt32.toInt8.toInt32) 17 (f 15 + 1)) := by
  obtain ⟨r1, r2, r3, r4, r5, r6, r7⟩ := r
  have hf : ∀ m, m ≠ 15 → upd f 15 (f 15 + 1) m = f m := fun m h => upd_o h
  have hq : ∀ m, m ≠ 16 → (xpF (xpA x 16 (f 15) (nI c).toInt8.toInt32.toInt8.toInt32) 17 (f 15 + 1)).q m = x.q m := fun m h => xpA_q h
  have hg : ∀ m, m ≠ 16 → ∀ j, ug g 16 (f 15) (nI c) m j = g m j := fun m h j => ug_k _ _ _ h j
  have hb : ∀ b, Bo (upd f 15 (f 15 + 1)) b → Bo f b := fun b hb => ⟨hb.1, by have := hb.2; rwa [hf 0 (by decide)] at this⟩
  refine ⟨fun k hk => ?_, fun i hi => ?_, ⟨r3.1, fun b h => r3.2 b (hb b h)⟩, fun k hk b h => ?_, fun j h0 h1 => ?_, fun h => ?_, fun s hs => ?_⟩
  · show upd x.p 17 (f 15 + 1) k = _
    rcases xfd_in hk with rfl | rfl | rfl | rfl | rfl | rfl | rfl <;> first | exact r1 _ rfl | rfl
  · rw [hq 7 (by decide), r2 i hi, hf]
    unfold xl
    split <;> decide
  · rw [hq k (by rintro rfl; cases hk), hg (xg k) (by rcases xgd_in hk with rfl | rfl | rfl | rfl | rfl | rfl | rfl <;> decide)]
    exact r4 k hk b (hb b h)
  · show ug x.q 16 (f 15) _ 16 j &&& 255 = ug g 16 (f 15) (nI c) 16 j
    by_cases e : j = f 15
    · subst e
      rw [ug_s, ug_s]
      exact by_255 c hc
    · rw [ug_i _ _ _ e, ug_i _ _ _ e]
      refine r5 j h0 ?_
      have h1' : j < f 15 + 1 := by
        have : upd f 15 (f 15 + 1) 15 = f 15 + 1 := upd_s
        rwa [this] at h1
      obtain ⟨k, hk, ek⟩ := nI_of (Int32.not_lt.mpr h0)
      rw [ek, hn, nI_1, nI_ltI hk (by omega)] at h1'
      rw [ek, hn]
      refine nI_lt ?_ (by omega)
      have : k ≠ n := fun z => e (by rw [ek, hn, z])
      omega
  · rw [hf 33 (by decide)] at h
    have q := r6 h
    unfold XRi at q ⊢
    rw [hf 34 (by decide), hf 0 (by decide), hq 33 (by decide), hq 32 (by decide)]
    simp only [hg 35 (by decide)]
    refine ⟨q.1, q.2.1, q.2.2.1, q.2.2.2.1, q.2.2.2.2.1, q.2.2.2.2.2.1, q.2.2.2.2.2.2.1, q.2.2.2.2.2.2.2.1, q.2.2.2.2.2.2.2.2.1, q.2.2.2.2.2.2.2.2.2.1, q.2.2.2.2.2.2.2.2.2.2.1, fun j h1 h2 b h3 h4 => ?_⟩
    rw [hq j (by omega)]
    exact q.2.2.2.2.2.2.2.2.2.2.2 j h1 h2 b h3 h4
  · have q := r7 s hs
    unfold XRs at q ⊢
    rw [hq 38 (by decide), hq 39 (by decide), hq (53 + s) (by omega)]
    simp only [hg 36 (by decide), hg 37 (by decide), hg 38 (by decide)]
    exact q
theorem c_Xfeed {c : Int32} (hV : InvN f) : Ct Γ A yX0_feed wX0_feed 2 0 0 [.ref (L 35), .int c] (XI Γ L f g T TT) (RI (XO Γ L T (oFeed f g c))) := by
  obtain ⟨n, hn, en⟩ := nI_of2 (x := f 15) (M := 160) (n := 160) (by decide) (Int32.not_lt.mpr hV.2.2.2.2.2.2.2.2.2.2.2.2.2.2.1) hV.2.2.2.2.2.2.2.2.2.2.2.2.2.2.2.1
  refine Ct.of (cc := cX0_feed) (nL := 2) (ret := (some .int)) (ls := [some (.ref (L 35)), some (.int c)]) rfl rfl rfl (nle rfl) ?_
  intro K hK hQ
  refine xi_open fun x r _ => ?_
  refine j_iload_n (pc := 0) hK dX0_feed_0 rfl ?_
  refine j_i2l (pc := 1) hK dX0_feed_1 ?_
  refine j_lconst (pc := 2) (v := 0) hK dX0_feed_2 (by decide) ?_
  refine j_ldc2 (pc := 3) hK q383 dX0_feed_3 ?_
  refine j_callS (pc := 6) hK hQ (c_Xin (l := 0) (u := 255) (by decide) (by decide)) cal_X0_in q106 dX0_feed_6 rfl rfl (nle rfl) (nle rfl) (nle rfl) (nle rfl) (kr_i fun r6 => ?_) kx_i
  refine J.pre fun e6 => ?_
  subst e6
  refine j_if_ne_b (pc := 9) (tgt := 15) hK dX0_feed_9 (by decide) (fun c9 => ?_) (fun c9 => ?_)
  · refine j_aload_n (pc := 15) hK dX0_feed_15 rfl ?_
    refine xc_get (pc := 16) (k := 17) (v := f 15) hK (fun _ w => w) (by decide) rfl (r.1 17 rfl) q768 rfl dX0_feed_16 ?_
    refine j_sipush (pc := 19) (v := 160) hK dX0_feed_19 (by decide) ?_
    refine j_icmp_ne (pc := 22) (tgt := 28) hK dX0_feed_22 (by decide) (fun c22 => ?_) (fun c22 => ?_)
    · have hlt : n < 160 := by
        rcases Nat.lt_or_ge n 160 with z | z
        · exact z
        · exact absurd (by rw [en, show n = 160 by omega]; decide) c22
      obtain ⟨cc, hcc, ec⟩ := nI_of2 (x := c) (M := 255) (n := 255) (by decide) (Int32.not_lt.mpr c9.1) c9.2
      refine j_aload_n (pc := 28) hK dX0_feed_28 rfl ?_
      refine xc_getR (pc := 29) (k := 16) hK (fun _ w => w) (by decide) rfl q767 rfl dX0_feed_29 ?_
      refine j_aload_n (pc := 32) hK dX0_feed_32 rfl ?_
      refine xc_get (pc := 33) (k := 17) (v := f 15) hK (fun _ w => w) (by decide) rfl (r.1 17 rfl) q768 rfl dX0_feed_33 ?_
      refine j_iload_n (pc := 36) hK dX0_feed_36 rfl ?_
      refine j_i2b (pc := 37) hK dX0_feed_37 ?_
      refine xc_bast (pc := 38) hK (by rw [en]; exact vp_in_nI hlt (by decide)) dX0_feed_38 ?_
      refine j_aload_n (pc := 39) hK dX0_feed_39 rfl ?_
      refine j_dup (pc := 40) hK dX0_feed_40 rfl ?_
      refine xc_get (pc := 41) (k := 17) (v := f 15) hK (fun _ w => w) (by decide) rfl (r.1 17 rfl) q768 rfl dX0_feed_41 ?_
      refine j_iconst (pc := 44) (v := 1) hK dX0_feed_44 (by decide) ?_
      refine j_iadd (pc := 45) hK dX0_feed_45 ?_
      refine xc_put (pc := 46) (k := 17) hK (by decide) rfl q768 rfl rfl rfl rfl dX0_feed_46 ?_
      refine j_aload_n (pc := 49) hK dX0_feed_49 rfl ?_
      refine xc_get (pc := 50) (k := 17) (v := f 15 + 1) hK (fun _ w => w) (by decide) rfl rfl q768 rfl dX0_feed_50 ?_
      exact j_iret (pc := 53) hK hQ (nle rfl) (nle rfl) dX0_feed_53 (fun h w => ⟨_, rfl, upd f 15 (f 15 + 1), ug g 16 (f 15) c, (by unfold oFeed; rw [if_neg (fun z => z c9), if_neg c22]), xi_close (f := upd f 15 (f 15 + 1)) (g := ug g 16 (f 15) c) w rfl (by rw [ec]; exact r.feed (c := cc) en hlt (by omega)) trivial⟩)
    · refine j_bipush (pc := 25) (v := (-4)) hK dX0_feed_25 (by decide) ?_
      exact j_iret (pc := 27) hK hQ (nle rfl) (nle rfl) dX0_feed_27 (fun h w => ⟨_, rfl, _, _, by unfold oFeed; first | exact if_pos c9 | exact (if_neg (fun z => z c9)).trans (if_pos c22), xi_close w rfl r trivial⟩)
  · refine j_bipush (pc := 12) (v := (-2)) hK dX0_feed_12 (by decide) ?_
    exact j_iret (pc := 14) hK hQ (nle rfl) (nle rfl) dX0_feed_14 (fun h w => ⟨_, rfl, _, _, by unfold oFeed; first | exact if_pos c9 | exact (if_neg (fun z => z c9)).trans (if_pos c22), xi_close w rfl r trivial⟩)
/-- a new boat lies beside the world -/
def NB (P : PH → Prop) (a k : Nat) (n : Int32) (h : PH) : Prop := ∃ h0, P h0 ∧ h0 a = none ∧ h = pu h0 a (.inr (8 + k, [.int n]))
theorem pu_pu (h : PH) (a : Nat) (e e' : va_E) : pu (pu h a e) a e' = pu h a e' := by
  funext q
  unfold pu
  by_cases z : q = a
  · rw [if_pos z, if_pos z]
  · rw [if_neg z, if_neg z, if_neg z]
theorem NB.bt {a k : Nat} {n : Int32} (hk : k ≤ 5) : BtA (NB P a k n) a k n := ⟨hk, fun h ⟨h0, _, _, e⟩ => by rw [e, pu_self]⟩
theorem c_I9 {a k : Nat} {n m : Int32} (hk : k ≤ 5) : Ct Γ A yX9_init wX9_init 2 0 0 [.ref a, .int n] (NB P a k m) (RV (NB P a k n)) := by
  refine Ct.of (cc := cX9_init) (nL := 2) (ret := none) (ls := [some (.ref a), some (.int n)]) rfl rfl rfl (nle rfl) ?_
  intro K hK hQ
  refine j_aload_n (pc := 0) hK dX9_init_0 rfl ?_
  refine j_obj (pc := 1) hK hQ q125 dX9_init_1 (by decide) (by decide) ?_
  refine j_aload_n (pc := 4) hK dX9_init_4 rfl ?_
  refine j_iload_n (pc := 5) hK dX9_init_5 rfl ?_
  refine b_pnum (pc := 6) hK (NB.bt hk) q128 (Or.inl rfl) dX9_init_6 (P' := NB P a k n) (fun h ⟨h0, q1, q2, e⟩ => ⟨h0, q1, q2, by rw [e, pu_pu]⟩) ?_
  exact j_vret (pc := 9) hK hQ (nle rfl) (nle rfl) dX9_init_9 (fun h w => ⟨rfl, w⟩)
theorem c_I10 {a k : Nat} {n m : Int32} (hk : k ≤ 5) : Ct Γ A yX10_init wX10_init 3 0 0 [.ref a, .int n] (NB P a k m) (RV (NB P a k n)) := by
  refine Ct.of (cc := cX10_init) (nL := 2) (ret := none) (ls := [some (.ref a), some (.int n)]) rfl rfl rfl (nle rfl) ?_
  intro K hK hQ
  refine j_aload_n (pc := 0) hK dX10_init_0 rfl ?_
  refine j_iload_n (pc := 1) hK dX10_init_1 rfl ?_
  refine j_callI (pc := 2) hK hQ (c_I9 hk) cal_X9_init q122 dX10_init_2 rfl rfl (nle rfl) (nle rfl) (nle rfl) (nle rfl) (kr_v ?_) kx_v
  exact j_vret (pc := 5) hK hQ (nle rfl) (nle rfl) dX10_init_5 (fun h w => ⟨rfl, w⟩)
theorem c_I11 {a k : Nat} {n m : Int32} (hk : k ≤ 5) : Ct Γ A yX11_init wX11_init 3 0 0 [.ref a, .int n] (NB P a k m) (RV (NB P a k n)) := by
  refine Ct.of (cc := cX11_init) (nL := 2) (ret := none) (ls := [some (.ref a), some (.int n)]) rfl rfl rfl (nle rfl) ?_
  intro K hK hQ
  refine j_aload_n (pc := 0) hK dX11_init_0 rfl ?_
  refine j_iload_n (pc := 1) hK dX11_init_1 rfl ?_
  refine j_callI (pc := 2) hK hQ (c_I9 hk) cal_X9_init q144 dX11_init_2 rfl rfl (nle rfl) (nle rfl) (nle rfl) (nle rfl) (kr_v ?_) kx_v
  exact j_vret (pc := 5) hK hQ (nle rfl) (nle rfl) dX11_init_5 (fun h w => ⟨rfl, w⟩)
theorem c_I14 {a k : Nat} {n m : Int32} (hk : k ≤ 5) : Ct Γ A yX14_init wX14_init 3 0 0 [.ref a, .int n] (NB P a k m) (RV (NB P a k n)) := by
  refine Ct.of (cc := cX14_init) (nL := 2) (ret := none) (ls := [some (.ref a), some (.int n)]) rfl rfl rfl (nle rfl) ?_
  intro K hK hQ
  refine j_aload_n (pc := 0) hK dX14_init_0 rfl ?_
  refine j_iload_n (pc := 1) hK dX14_init_1 rfl ?_
  refine j_callI (pc := 2) hK hQ (c_I9 hk) cal_X9_init q168 dX14_init_2 rfl rfl (nle rfl) (nle rfl) (nle rfl) (nle rfl) (kr_v ?_) kx_v
  exact j_vret (pc := 5) hK hQ (nle rfl) (nle rfl) dX14_init_5 (fun h w => ⟨rfl, w⟩)
theorem c_I12 {a k : Nat} {n m : Int32} (hk : k ≤ 5) : Ct Γ A yX12_init wX12_init 4 0 0 [.ref a, .int n] (NB P a k m) (RV (NB P a k n)) := by
  refine Ct.of (cc := cX12_init) (nL := 2) (ret := none) (ls := [some (.ref a), some (.int n)]) rfl rfl rfl (nle rfl) ?_
  intro K hK hQ
  refine j_aload_n (pc := 0) hK dX12_init_0 rfl ?_
  refine j_iload_n (pc := 1) hK dX12_init_1 rfl ?_
  refine j_callI (pc := 2) hK hQ (c_I10 hk) cal_X10_init q152 dX12_init_2 rfl rfl (nle rfl) (nle rfl) (nle rfl) (nle rfl) (kr_v ?_) kx_v
  exact j_vret (pc := 5) hK hQ (nle rfl) (nle rfl) dX12_init_5 (fun h w => ⟨rfl, w⟩)
theorem c_I13 {a k : Nat} {n m : Int32} (hk : k ≤ 5) : Ct Γ A yX13_init wX13_init 4 0 0 [.ref a, .int n] (NB P a k m) (RV (NB P a k n)) := by
  refine Ct.of (cc := cX13_init) (nL := 2) (ret := none) (ls := [some (.ref a), some (.int n)]) rfl rfl rfl (nle rfl) ?_
  intro K hK hQ
  refine j_aload_n (pc := 0) hK dX13_init_0 rfl ?_
  refine j_iload_n (pc := 1) hK dX13_init_1 rfl ?_
  refine j_callI (pc := 2) hK hQ (c_I11 hk) cal_X11_init q160 dX13_init_2 rfl rfl (nle rfl) (nle rfl) (nle rfl) (nle rfl) (kr_v ?_) kx_v
  exact j_vret (pc := 5) hK hQ (nle rfl) (nle rfl) dX13_init_5 (fun h w => ⟨rfl, w⟩)
theorem c_Xmade {k : Nat} {n : Int32} (hk : k ≤ 5) : Ct Γ A yX0_made wX0_made 5 1 1 [.int (nI k), .int n] P (RR fun r h => ∃ a, r = .ref a ∧ NB P a k n h) := by
  refine Ct.of (cc := cX0_made) (nL := 2) (ret := (some (.object "BoatsCalledIn$Boat"))) (ls := [some (.int (nI k)), some (.int n)]) rfl rfl rfl (nle rfl) ?_
  intro K hK hQ
  rcases k6 hk with rfl | rfl | rfl | rfl | rfl | rfl
  · have hk0 : 0 ≤ 5 := by decide
    refine j_iload_n (pc := 0) hK dX0_made_0 rfl ?_
    refine j_tableOut (pc := 1) (tgt := 81) hK dX0_made_1 (by decide) (by decide) ?_
    refine j_new (pc := 81) (ci := 8) (fs := [.int 0]) hK hQ rfl in_X9 tyX9_ok q171 q172 q88 (by decide) (nle rfl) (nle rfl) dX0_made_81 (fun a81 => ?_)
    refine J.mono (P' := NB P a81 0 0) (fun h w => w) ?_
    refine j_dup (pc := 84) hK dX0_made_84 rfl ?_
    refine j_iload_n (pc := 85) hK dX0_made_85 rfl ?_
    refine j_callI (pc := 86) hK hQ (c_I9 (k := 0) (m := 0) (by decide)) cal_X9_init q173 dX0_made_86 rfl rfl (nle rfl) (nle rfl) (nle rfl) (nle rfl) (kr_v ?_) kx_v
    exact j_aret (pc := 89) hK hQ (Or.inl ⟨_, rfl⟩) (Or.inr ⟨_, rfl⟩) (nle rfl) (nle rfl) dX0_made_89 (fun h w => ⟨_, rfl, _, rfl, w⟩)
  · have hk0 : 1 ≤ 5 := by decide
    refine j_iload_n (pc := 0) hK dX0_made_0 rfl ?_
    refine j_tableIn (pc := 1) (tgt := 36) hK dX0_made_1 (by decide) (by decide) rfl (by decide) ?_
    refine j_new (pc := 36) (ci := 9) (fs := [.int 0]) hK hQ rfl in_X10 tyX10_ok q117 q118 q89 (by decide) (nle rfl) (nle rfl) dX0_made_36 (fun a36 => ?_)
    refine J.mono (P' := NB P a36 1 0) (fun h w => w) ?_
    refine j_dup (pc := 39) hK dX0_made_39 rfl ?_
    refine j_iload_n (pc := 40) hK dX0_made_40 rfl ?_
    refine j_callI (pc := 41) hK hQ (c_I10 (k := 1) (m := 0) (by decide)) cal_X10_init q119 dX0_made_41 rfl rfl (nle rfl) (nle rfl) (nle rfl) (nle rfl) (kr_v ?_) kx_v
    exact j_aret (pc := 44) hK hQ (Or.inl ⟨_, rfl⟩) (Or.inr ⟨_, rfl⟩) (nle rfl) (nle rfl) dX0_made_44 (fun h w => ⟨_, rfl, _, rfl, w⟩)
  · have hk0 : 2 ≤ 5 := by decide
    refine j_iload_n (pc := 0) hK dX0_made_0 rfl ?_
    refine j_tableIn (pc := 1) (tgt := 45) hK dX0_made_1 (by decide) (by decide) rfl (by decide) ?_
    refine j_new (pc := 45) (ci := 10) (fs := [.int 0]) hK hQ rfl in_X11 tyX11_ok q139 q140 q90 (by decide) (nle rfl) (nle rfl) dX0_made_45 (fun a45 => ?_)
    refine J.mono (P' := NB P a45 2 0) (fun h w => w) ?_
    refine j_dup (pc := 48) hK dX0_made_48 rfl ?_
    refine j_iload_n (pc := 49) hK dX0_made_49 rfl ?_
    refine j_callI (pc := 50) hK hQ (c_I11 (k := 2) (m := 0) (by decide)) cal_X11_init q141 dX0_made_50 rfl rfl (nle rfl) (nle rfl) (nle rfl) (nle rfl) (kr_v ?_) kx_v
    exact j_aret (pc := 53) hK hQ (Or.inl ⟨_, rfl⟩) (Or.inr ⟨_, rfl⟩) (nle rfl) (nle rfl) dX0_made_53 (fun h w => ⟨_, rfl, _, rfl, w⟩)
  · have hk0 : 3 ≤ 5 := by decide
    refine j_iload_n (pc := 0) hK dX0_made_0 rfl ?_
    refine j_tableIn (pc := 1) (tgt := 54) hK dX0_made_1 (by decide) (by decide) rfl (by decide) ?_
    refine j_new (pc := 54) (ci := 11) (fs := [.int 0]) hK hQ rfl in_X12 tyX12_ok q147 q148 q91 (by decide) (nle rfl) (nle rfl) dX0_made_54 (fun a54 => ?_)
    refine J.mono (P' := NB P a54 3 0) (fun h w => w) ?_
    refine j_dup (pc := 57) hK dX0_made_57 rfl ?_
    refine j_iload_n (pc := 58) hK dX0_made_58 rfl ?_
    refine j_callI (pc := 59) hK hQ (c_I12 (k := 3) (m := 0) (by decide)) cal_X12_init q149 dX0_made_59 rfl rfl (nle rfl) (nle rfl) (nle rfl) (nle rfl) (kr_v ?_) kx_v
    exact j_aret (pc := 62) hK hQ (Or.inl ⟨_, rfl⟩) (Or.inr ⟨_, rfl⟩) (nle rfl) (nle rfl) dX0_made_62 (fun h w => ⟨_, rfl, _, rfl, w⟩)
  · have hk0 : 4 ≤ 5 := by decide
    refine j_iload_n (pc := 0) hK dX0_made_0 rfl ?_
    refine j_tableIn (pc := 1) (tgt := 63) hK dX0_made_1 (by decide) (by decide) rfl (by decide) ?_
    refine j_new (pc := 63) (ci := 12) (fs := [.int 0]) hK hQ rfl in_X13 tyX13_ok q155 q156 q92 (by decide) (nle rfl) (nle rfl) dX0_made_63 (fun a63 => ?_)
    refine J.mono (P' := NB P a63 4 0) (fun h w => w) ?_
    refine j_dup (pc := 66) hK dX0_made_66 rfl ?_
    refine j_iload_n (pc := 67) hK dX0_made_67 rfl ?_
    refine j_callI (pc := 68) hK hQ (c_I13 (k := 4) (m := 0) (by decide)) cal_X13_init q157 dX0_made_68 rfl rfl (nle rfl) (nle rfl) (nle rfl) (nle rfl) (kr_v ?_) kx_v
    exact j_aret (pc := 71) hK hQ (Or.inl ⟨_, rfl⟩) (Or.inr ⟨_, rfl⟩) (nle rfl) (nle rfl) dX0_made_71 (fun h w => ⟨_, rfl, _, rfl, w⟩)
  · have hk0 : 5 ≤ 5 := by decide
    refine j_iload_n (pc := 0) hK dX0_made_0 rfl ?_
    refine j_tableIn (pc := 1) (tgt := 72) hK dX0_made_1 (by decide) (by decide) rfl (by decide) ?_
    refine j_new (pc := 72) (ci := 13) (fs := [.int 0]) hK hQ rfl in_X14 tyX14_ok q163 q164 q93 (by decide) (nle rfl) (nle rfl) dX0_made_72 (fun a72 => ?_)
    refine J.mono (P' := NB P a72 5 0) (fun h w => w) ?_
    refine j_dup (pc := 75) hK dX0_made_75 rfl ?_
    refine j_iload_n (pc := 76) hK dX0_made_76 rfl ?_
    refine j_callI (pc := 77) hK hQ (c_I14 (k := 5) (m := 0) (by decide)) cal_X14_init q165 dX0_made_77 rfl rfl (nle rfl) (nle rfl) (nle rfl) (nle rfl) (kr_v ?_) kx_v
    exact j_aret (pc := 80) hK hQ (Or.inl ⟨_, rfl⟩) (Or.inr ⟨_, rfl⟩) (nle rfl) (nle rfl) dX0_made_80 (fun h w => ⟨_, rfl, _, rfl, w⟩)
end X70
