/-! the class reads a text: text, firstText -/
set_option maxRecDepth 100000
section P81
variable {Γ : Gam} {A : Nat → Prop} {L : Nat → Nat} {f f' : Nat → Int32} {g g' : Nat → Int32 → Int32} {T : TX} {x : XD}
theorem XR.tape {n : Nat} (r : XR f g x) (hf : ∀ m, m ≠ 15 → f' m = f m) (hf15 : f' 15 = nI n) (hn : n ≤ 160) (hg : ∀ m, m ≠ 16 → ∀ j, g' m j = g m j) (ht : ∀ k, k < n → x.q 16 (nI k) &&& 255 = g' 16 (nI k)) : XR f' g' (xpF x 17 (nI n)) := by
  obtain ⟨r1, r2, r3, r4, r5, r6, r7⟩ := r
  have hb : ∀ b, Bo f' b → Bo f b := fun b hb => ⟨hb.1, by have := hb.2; rwa [hf 0 (by decide)] at this⟩
  refine ⟨fun j hj => ?_, fun i hi => ?_, ⟨r3.1, fun b h => r3.2 b (hb b h)⟩, fun k hk b h => ?_, fun j h0 h1 => ?_, fun h => ?_, fun s hs => ?_⟩
  · show upd x.p 17 (nI n) j = _
    rcases xfd_in hj with rfl | rfl | rfl | rfl | rfl | rfl | rfl <;> first | exact (r1 _ rfl).trans (hf _ (by decide)).symm | exact hf15.symm
  · rw [hf (xl i) (by unfold xl; split <;> decide)]
    exact r2 i hi
  · rw [hg (xg k) (by rcases xgd_in hk with rfl | rfl | rfl | rfl | rfl | rfl | rfl <;> decide)]
    exact r4 k hk b (hb b h)
  · rw [hf15] at h1
    obtain ⟨k, hk, ek⟩ := nI_of (Int32.not_lt.mpr h0)
    rw [ek] at h1 ⊢
    exact ht k ((nI_ltI hk (by omega)).mp h1)
  · rw [hf 33 (by decide)] at h
    have q := r6 h
    unfold XRi at q ⊢
    rw [hf 34 (by decide), hf 0 (by decide)]
    simp only [hg 35 (by decide)]
    exact q
  · have q := r7 s hs
    unfold XRs at q ⊢
    simp only [hg 36 (by decide), hg 37 (by decide), hg 38 (by decide)]
    exact q
theorem XR.tapeA {i v : Int32} (r : XR f00 g00 x) : XR f00 g00 (xpA x 16 i v) := by
  obtain ⟨r1, r2, r3, r4, r5, r6, r7⟩ := r
  have hq : ∀ m, m ≠ 16 → (xpA x 16 i v).q m = x.q m := fun m h => xpA_q h
  refine ⟨r1, fun j hj => by rw [hq 7 (by decide)]; exact r2 j hj, r3, fun k hk b h => by rw [hq k (by rintro rfl; cases hk)]; exact r4 k hk b h, fun j h0 h1 => absurd (Int32.lt_of_le_of_lt h0 h1) (by decide), fun h => absurd rfl h, fun s hs => ?_⟩
  have q := r7 s hs
  unfold XRs at q ⊢
  rw [hq 38 (by decide), hq 39 (by decide), hq (53 + s) (by omega)]
  exact q
theorem wF_ok : ∀ i, i < 46 → 0 ≤ wFirst.getD i 0 ∧ wFirst.getD i 0 ≤ 255 ∧ chI (wFirst.getD i 0) = wFirst.getD i 0 ∧ (wFirst.getD i 0).toInt8.toInt32.toInt8.toInt32 &&& 255 = wFirst.getD i 0 := by decide +kernel
theorem fd_f : ∀ i, i ≤ 46 → ∀ m, m ≠ 15 → (fdS i).2.1 m = f00 m := by
  intro i
  induction i with
  | zero => intro _ m _; rfl
  | succ i ih =>
    intro hi m hm
    have h15 := (fdS_ok i (by omega)).1
    have hc := wF_ok i (by omega)
    show (oFeed (fdS i).2.1 (fdS i).2.2 (wFirst.getD i 0)).2.1 m = _
    unfold oFeed
    rw [if_neg (fun z => z ⟨hc.1, hc.2.1⟩), if_neg (fun z => by rw [h15, show (160 : Int32) = nI 160 by decide, nI_eq (by omega) (by decide)] at z; omega)]
    show upd (fdS i).2.1 15 _ m = _
    rw [upd_o hm]
    exact ih (by omega) m hm
theorem fd_g : ∀ i, i ≤ 46 → (∀ m, m ≠ 16 → ∀ j, (fdS i).2.2 m j = g00 m j) ∧ ∀ k, k < i → (fdS i).2.2 16 (nI k) = wFirst.getD k 0 := by
  intro i
  induction i with
  | zero => intro _; exact ⟨fun _ _ _ => rfl, fun k hk => by omega⟩
  | succ i ih =>
    intro hi
    have h15 := (fdS_ok i (by omega)).1
    have hc := wF_ok i (by omega)
    obtain ⟨a, b⟩ := ih (by omega)
    have e : (fdS (i + 1)).2.2 = ug (fdS i).2.2 16 (nI i) (wFirst.getD i 0) := by
      show (oFeed (fdS i).2.1 (fdS i).2.2 (wFirst.getD i 0)).2.2 = _
      unfold oFeed
      rw [if_neg (fun z => z ⟨hc.1, hc.2.1⟩), if_neg (fun z => by rw [h15, show (160 : Int32) = nI 160 by decide, nI_eq (by omega) (by decide)] at z; omega), h15]
    rw [e]
    refine ⟨fun m hm j => by rw [ug_k _ _ _ hm]; exact a m hm j, fun k hk => ?_⟩
    by_cases z : k = i
    · rw [z, ug_s]
    · rw [ug_i _ _ _ (fun q => z ((nI_eq (by omega) (by omega)).mp q))]
      exact b k (by omega)
theorem c_Xtext {n tm : Nat} (h15 : f 15 = nI n) (hn : n ≤ 160) (h17 : f 17 = nI tm) (htm : tm ≤ 6) : Ct Γ A yX0_text wX0_text 58 161 483 [.ref (L 35)] (XI Γ L f g T TT) (RI (XTe Γ (L 35) (oText f g T))) := by
  refine Ct.of (cc := cX0_text) (nL := 1) (ret := (some .int)) (ls := [some (.ref (L 35))]) rfl rfl rfl (nle rfl) ?_
  intro K hK hQ
  refine xi_open fun x r _ => ?_
  by_cases h6 : tm = 6
  · have e6 : f 17 = 6 := by rw [h17, h6]; decide
    refine j_aload_n (pc := 0) hK dX0_text_0 rfl ?_
    refine xc_get (pc := 1) (k := 13) (v := 6) hK (fun _ w => w) (by decide) rfl ((r.1 13 rfl).trans e6) q764 rfl dX0_text_1 ?_
    refine j_bipush (pc := 4) (v := 6) hK dX0_text_4 (by decide) ?_
    refine j_icmp_ne (pc := 6) (tgt := 14) hK dX0_text_6 (by decide) (fun c6 => absurd rfl c6) (fun c6 => ?_)
    refine j_bipush (pc := 9) (v := (-4)) hK dX0_text_9 (by decide) ?_
    refine j_goto (pc := 11) (tgt := 18) hK dX0_text_11 (by decide) ?_
    exact j_iret (pc := 18) hK hQ (nle rfl) (nle rfl) dX0_text_18 (fun h w => ⟨_, rfl, L, f, g, T, rfl, (by unfold oText; rw [if_pos e6]), xi_close w rfl r trivial⟩)
  · skip
    refine j_aload_n (pc := 0) hK dX0_text_0 rfl ?_
    refine xc_get (pc := 1) (k := 13) (v := nI tm) hK (fun _ w => w) (by decide) rfl ((r.1 13 rfl).trans h17) q764 rfl dX0_text_1 ?_
    refine j_bipush (pc := 4) (v := 6) hK dX0_text_4 (by decide) ?_
    refine j_icmp_ne (pc := 6) (tgt := 14) hK dX0_text_6 (by decide) (fun c6 => ?_) (fun c6 => absurd c6 (fun z => h6 ((nI_eq (b := 6) (by omega) (by decide)).mp z)))
    refine j_aload_n (pc := 14) hK dX0_text_14 rfl ?_
    refine J.mono (P' := XI Γ L f g T TT) (fun h w => xi_close w rfl r trivial) ?_
    refine j_callV (pc := 15) hK hQ (c_XnewText h15 hn h17 (by omega)) cal_X0_newText (xi_isC (fun _ w => w)) q388 dX0_text_15 rfl rfl (nle rfl) (nle rfl) (nle rfl) (nle rfl) (kr_i fun r15 => ?_) kx_i
    exact j_iret (pc := 18) hK hQ (nle rfl) (nle rfl) dX0_text_18 (fun h w => ⟨_, rfl, w⟩)
theorem c_XfirstText {a v : Nat} (hS : sLs Γ a v wFirst) : Ct Γ A yX0_firstText wX0_firstText 58 161 483 [.ref (L 35), .ref a] (XI Γ L f00 g00 T0 TT) (RV fun h => ∃ r, XTe Γ (L 35) oInit r h) := by
  refine Ct.of (cc := cX0_firstText) (nL := 3) (ret := none) (ls := [some (.ref (L 35)), some (.ref a), none]) rfl rfl rfl (nle rfl) ?_
  intro K hK hQ
  have hΓ := hK.g
  have seg : ∀ x, XR f00 g00 x → (∀ k, k < 46 → x.q 16 (nI k) &&& 255 = wFirst.getD k 0) → J Γ A K 28 [some (.ref (L 35)), some (.ref a), none] [] (XC Γ L T0 (f00 17).toNatClampNeg x) 0 0 := by
    intro x r ht
    refine j_aload_n (pc := 28) hK dX0_firstText_28 rfl ?_
    refine j_aload_n (pc := 29) hK dX0_firstText_29 rfl ?_
    refine j_callL (pc := 30) hK hQ (c_Jlength hΓ hS) cal_J3_length hS q416 dX0_firstText_30 rfl rfl (nle rfl) (nle rfl) (nle rfl) (nle rfl) (kr_i fun r30 => ?_) kx_i
    refine J.pre fun e30 => ?_
    subst e30
    refine xc_put (pc := 33) (k := 17) hK (by decide) rfl q768 rfl rfl rfl rfl dX0_firstText_33 ?_
    refine j_aload_n (pc := 36) hK dX0_firstText_36 rfl ?_
    refine J.mono (P' := XI Γ L (fdS 46).2.1 (fdS 46).2.2 T0 TT) (fun h w => xi_close w (by rw [fd_f 46 (by decide) 17 (by decide)]) (r.tape (n := 46) (fd_f 46 (by decide)) (fdS_ok 46 (by decide)).1 (by decide) (fd_g 46 (by decide)).1 (fun k hk => (ht k hk).trans ((fd_g 46 (by decide)).2 k hk).symm)) trivial) ?_
    refine j_callV (pc := 37) hK hQ (c_XnewText (n := 46) (tm := 0) (fdS_ok 46 (by decide)).1 (by decide) (fdS_ok 46 (by decide)).2 (by decide)) cal_X0_newText (xi_isC (fun _ w => w)) q388 dX0_firstText_37 rfl rfl (nle rfl) (nle rfl) (nle rfl) (nle rfl) (kr_i fun r37 => ?_) kx_i
    refine j_ist2 (pc := 40) hK dX0_firstText_40 (by decide) rfl ?_
    exact j_vret (pc := 41) hK hQ (nle rfl) (nle rfl) dX0_firstText_41 (fun h w => ⟨rfl, _, w⟩)
  have loop : ∀ (r i : Nat) (x : XD), i + r = 46 → XR f00 g00 x → (∀ k, k < i → x.q 16 (nI k) &&& 255 = wFirst.getD k 0) → J Γ A K 2 [some (.ref (L 35)), some (.ref a), some (.int (nI i))] [] (XC Γ L T0 (f00 17).toNatClampNeg x) 0 0 := by
    intro r
    induction r with
    | zero =>
      intro i x hi r ht
      have : i = 46 := by omega
      subst this
      refine j_iload_n (pc := 2) hK dX0_firstText_2 rfl ?_
      refine j_aload_n (pc := 3) hK dX0_firstText_3 rfl ?_
      refine j_callL (pc := 4) hK hQ (c_Jlength hΓ hS) cal_J3_length hS q416 dX0_firstText_4 rfl rfl (nle rfl) (nle rfl) (nle rfl) (nle rfl) (kr_i fun r4 => ?_) kx_i
      refine J.pre fun e4 => ?_
      subst e4
      refine j_icmp_ge (pc := 7) (tgt := 28) hK dX0_firstText_7 (by decide) (fun c7 => ?_) (fun c7 => absurd (by decide) c7)
      exact J.fg [some (.ref (L 35)), some (.ref a), none] (by simp [subL]) (seg x r ht)
    | succ m ih =>
      intro i x hi0 r ht
      have hi : i < wFirst.length := (show i < 46 by omega)
      have hc := wF_ok i hi
      refine j_iload_n (pc := 2) hK dX0_firstText_2 rfl ?_
      refine j_aload_n (pc := 3) hK dX0_firstText_3 rfl ?_
      refine j_callL (pc := 4) hK hQ (c_Jlength hΓ hS) cal_J3_length hS q416 dX0_firstText_4 rfl rfl (nle rfl) (nle rfl) (nle rfl) (nle rfl) (kr_i fun r4 => ?_) kx_i
      refine J.pre fun e4 => ?_
      subst e4
      refine j_icmp_ge (pc := 7) (tgt := 28) hK dX0_firstText_7 (by decide) (fun c7 => absurd c7 (nI_ge hi (by decide))) (fun c7 => ?_)
      refine j_aload_n (pc := 10) hK dX0_firstText_10 rfl ?_
      refine xc_getR (pc := 11) (k := 16) hK (fun _ w => w) (by decide) rfl q767 rfl dX0_firstText_11 ?_
      refine j_iload_n (pc := 14) hK dX0_firstText_14 rfl ?_
      refine j_aload_n (pc := 15) hK dX0_firstText_15 rfl ?_
      refine j_iload_n (pc := 16) hK dX0_firstText_16 rfl ?_
      refine j_callL (pc := 17) hK hQ (c_JcharAt hΓ hS hi) cal_J3_charAt hS q426 dX0_firstText_17 rfl rfl (nle rfl) (nle rfl) (nle rfl) (nle rfl) (kr_i fun r17 => ?_) kx_i
      refine J.pre fun e17 => ?_
      subst e17
      refine j_i2b (pc := 20) hK dX0_firstText_20 ?_
      rw [hc.2.2.1]
      refine xc_bast (pc := 21) hK (vp_in_nI (show i < 160 by have : i < 46 := hi; omega) (by decide)) dX0_firstText_21 ?_
      refine j_iinc2 (pc := 22) (v := 1) hK dX0_firstText_22 (by decide) rfl (by decide) ?_
      refine j_goto (pc := 25) (tgt := 2) hK dX0_firstText_25 (by decide) ?_
      rw [nI_1]
      refine ih (i + 1) _ (by omega) (r.tapeA) (fun k hk => ?_)
      show ug x.q 16 (nI i) _ 16 (nI k) &&& 255 = _
      by_cases e : k = i
      · rw [e, ug_s]; exact hc.2.2.2
      · rw [ug_i _ _ _ (fun q => e ((nI_eq (by omega) (by omega)).mp q))]
        exact ht k (by omega)
  refine xi_open fun x r _ => ?_
  refine j_iconst (pc := 0) (v := 0) hK dX0_firstText_0 (by decide) ?_
  refine j_ist2 (pc := 1) hK dX0_firstText_1 (by decide) rfl ?_
  exact loop 46 0 x rfl r (fun k hk => by omega)
end P81
