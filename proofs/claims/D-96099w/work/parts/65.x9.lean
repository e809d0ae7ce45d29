/-! the class: launch, one, thunder -/
set_option maxRecDepth 100000
section P65
variable {f : Nat → Int32} {g : Nat → Int32 → Int32} {T : TX}
theorem nI_m1 {n : Nat} (hn : n < 2 ^ 31) : ¬ nI n = -1 := by
  intro z
  have : (nI n).toInt = (-1 : Int32).toInt := by rw [z]
  rw [nI_toInt hn] at this
  have e1 : (-1 : Int32).toInt = -1 := rfl
  omega
theorem f10_nI (hV : XV f g T) : ∃ m, m ≤ 9999 ∧ f 10 = nI m := nI_of2 (M := 9999) (n := 9999) (by decide) (Int32.not_lt.mpr hV.1.2.2.2.2.2.2.1) hV.1.2.2.2.2.2.2.2.1
theorem need_nI {b : Int32} (hV : XV f g T) (hb : Bo f b) : ∃ m, m ≤ 600 ∧ needI f g b = nI m := by
  have := need_bd hV.1 (hV.2.1 b hb)
  exact nI_of2 (M := 600) (n := 600) (by decide) (Int32.not_lt.mpr this.1) this.2
/-- when one would be in: a minute, or -1 -/
theorem wbi_x {b : Int32} (hV : XV f g T) (hb : Bo f b) : wbiI f g T b = -1 ∨ ∃ m, m ≤ 99999 ∧ wbiI f g T b = nI m := by
  have hB := hV.2.1 b hb
  unfold wbiI
  split
  · by_cases e : g 7 b = -1
    · exact Or.inl e
    · have h0 : 0 ≤ g 7 b := by
        have := hB.2.2.2.2.2.2.2.2.2.2.2.2.1
        grind
      obtain ⟨m, hm, em⟩ := nI_of2 (M := 99999) (n := 99999) (by decide) (Int32.not_lt.mpr h0) hB.2.2.2.2.2.2.2.2.2.2.2.2.2
      exact Or.inr ⟨m, hm, em⟩
  · split
    · obtain ⟨m, hm, em⟩ := f10_nI hV
      obtain ⟨k, hk, ek⟩ := need_nI hV hb
      exact Or.inr ⟨m + k, by omega, by rw [em, ek, nI_add]⟩
    · exact Or.inl rfl
theorem wbi_lt {b : Int32} (hV : XV f g T) (hb : Bo f b) : wbiI f g T b < 0 ↔ wbiI f g T b = -1 := by
  rcases wbi_x hV hb with e | ⟨m, hm, e⟩
  · rw [e]; decide
  · rw [e]
    exact ⟨fun z => absurd z (nI_pos (by omega)), fun z => absurd z (nI_m1 (by omega))⟩
/-! the most of a set -/
abbrev okM (f : Nat → Int32) (g : Nat → Int32 → Int32) (nb a : Nat) (n : Int32) (k : Nat) : Prop := k &&& a = k ∧ (fetI f g nb k).1 ≤ n
theorem sub_eq : ∀ a, a < 128 → ∀ k, k < 128 → (k &&& (127 ^^^ a) = 0 ↔ k &&& a = k) := by decide +kernel
theorem pred_and : ∀ c, c < 128 → ∀ a, a < 128 → 0 < c → (nI c - 1) &&& nI a = nI ((c - 1) &&& a) := by decide +kernel
theorem next_sub0 : ∀ a, a < 128 → ∀ c, c < 128 → (¬ c &&& a = c ∨ ∀ j, j < c → (¬ j &&& a = j ∨ j ≤ (c - 1) &&& a)) := by decide +kernel
theorem next_sub (a : Nat) (ha : a < 128) (c : Nat) (hc : c < 128) (h : c &&& a = c) (j : Nat) (hj : j < c) (hs : j &&& a = j) : j ≤ (c - 1) &&& a := ((next_sub0 a ha c hc).resolve_left (fun z => z h) j hj).resolve_left (fun z => z hs)
theorem and_sub : ∀ a, a < 128 → ∀ c, c < 128 → ((c - 1) &&& a) &&& a = (c - 1) &&& a := by decide +kernel
theorem ok_nob {nb k : Nat} (hn : nb ≤ 7) (hk : k < 128) : nI k &&& (nobS f g T nb ^^^ (-1)) = 0 ↔ k &&& nobN f g T nb = k := by
  obtain ⟨e, l⟩ := nobS_N (f := f) (g := g) (T := T) nb hn
  have := p_le hn
  rw [e, and_not k hk _ (by omega), show (0 : Int32) = nI 0 by decide, nI_eq (Nat.lt_of_le_of_lt Nat.and_le_left (by omega)) (by decide), sub_eq _ (by omega) k hk]
theorem mx_spec {nb : Nat} {n : Int32} (hn : nb ≤ 7) : ∀ k, k < 128 → (∀ j, 1 ≤ j → j ≤ k → okM f g nb (nobN f g T nb) n j → pc7 j ≤ mxI f g T nb n k) ∧ (mxI f g T nb n k = 0 ∨ ∃ j, 1 ≤ j ∧ j ≤ k ∧ okM f g nb (nobN f g T nb) n j ∧ pc7 j = mxI f g T nb n k) := by
  intro k
  induction k with
  | zero => intro _; exact ⟨fun j h1 h2 => by omega, Or.inl rfl⟩
  | succ k ih =>
    intro hk
    obtain ⟨i1, i2⟩ := ih (by omega)
    by_cases c : nI (k + 1) &&& (nobS f g T nb ^^^ (-1)) = 0 ∧ mxI f g T nb n k < pc7 (k + 1) ∧ (fetI f g nb (k + 1)).1 ≤ n
    · have e : mxI f g T nb n (k + 1) = pc7 (k + 1) := if_pos c
      rw [e]
      refine ⟨fun j h1 h2 ho => ?_, Or.inr ⟨k + 1, by omega, Nat.le_refl _, ⟨(ok_nob hn hk).mp c.1, c.2.2⟩, rfl⟩⟩
      rcases Nat.lt_or_ge j (k + 1) with z | z
      · exact Nat.le_of_lt (Nat.lt_of_le_of_lt (i1 j h1 (by omega) ho) c.2.1)
      · have : j = k + 1 := by omega
        rw [this]
        exact Nat.le_refl _
    · have e : mxI f g T nb n (k + 1) = mxI f g T nb n k := if_neg c
      rw [e]
      refine ⟨fun j h1 h2 ho => ?_, i2.imp id (fun ⟨j, q1, q2, q3⟩ => ⟨j, q1, by omega, q3⟩)⟩
      rcases Nat.lt_or_ge j (k + 1) with z | z
      · exact i1 j h1 (by omega) ho
      · have : j = k + 1 := by omega
        subst this
        exact Nat.le_of_not_lt (fun y => c ⟨(ok_nob hn hk).mpr ho.1, y, ho.2⟩)
/-- what has been found among the sets above c -/
def mF (f : Nat → Int32) (g : Nat → Int32 → Int32) (nb a : Nat) (n : Int32) (c m : Nat) : Prop := (∀ j, c < j → j < 2 ^ nb → okM f g nb a n j → pc7 j ≤ m) ∧ (m = 0 ∨ ∃ j, 1 ≤ j ∧ j < 2 ^ nb ∧ okM f g nb a n j ∧ pc7 j = m)
theorem mF_end {nb m : Nat} {n : Int32} (hn : nb ≤ 7) (h : mF f g nb (nobN f g T nb) n 0 m) : m = mxI f g T nb n (2 ^ nb - 1) := by
  have h128 := pow_128 hn
  obtain ⟨s1, s2⟩ := mx_spec (f := f) (g := g) (T := T) (n := n) hn (2 ^ nb - 1) (by omega)
  obtain ⟨m1, m2⟩ := h
  apply Nat.le_antisymm
  · rcases m2 with z | ⟨j, q1, q2, q3, q4⟩
    · rw [z]; exact Nat.zero_le _
    · rw [← q4]; exact s1 j q1 (by omega) q3
  · rcases s2 with z | ⟨j, q1, q2, q3, q4⟩
    · rw [z]; exact Nat.zero_le _
    · rw [← q4]; exact m1 j (by omega) (by omega) q3
theorem mF_step {nb a c m m' : Nat} {n : Int32} (hn : nb ≤ 7) (ha : a < 2 ^ nb) (hc : c < 2 ^ nb) (hc0 : 0 < c) (hs : c &&& a = c) (h : mF f g nb a n c m) (hm : m' = if m < pc7 c ∧ (fetI f g nb c).1 ≤ n then pc7 c else m) : mF f g nb a n ((c - 1) &&& a) m' := by
  have h128 := pow_128 hn
  obtain ⟨h1, h2⟩ := h
  have hmm : m ≤ m' := by
    rw [hm]
    split
    · rename_i z; exact Nat.le_of_lt z.1
    · exact Nat.le_refl _
  refine ⟨fun j q1 q2 q3 => ?_, ?_⟩
  · rcases Nat.lt_or_ge c j with z | z
    · exact Nat.le_trans (h1 j z q2 q3) hmm
    · rcases Nat.lt_or_ge j c with y | y
      · have := next_sub a (by omega) c (by omega) hs j y q3.1
        omega
      · have : j = c := by omega
        subst this
        rw [hm]
        split
        · exact Nat.le_refl _
        · rename_i w
          exact Nat.le_of_not_lt (fun v => w ⟨v, q3.2⟩)
  · rw [hm]
    split
    · rename_i w
      exact Or.inr ⟨c, hc0, hc, ⟨hs, w.2⟩, rfl⟩
    · exact h2
theorem lau_keep {s : Nat} {nb : Nat} (hn : nb ≤ 7) : ∀ (r i : Nat) (f : Nat → Int32) (g : Nat → Int32 → Int32), XV f g T → XV (lauL T s r i f g).1 (lauL T s r i f g).2 T := by
  intro r
  induction r with
  | zero => intro i f g h; exact h
  | succ r ih =>
    intro i f g h
    unfold lauL
    split
    · exact ih _ _ _ (h.come (Int32.le_trans (by decide) h.1.2.2.2.2.2.2.1) (Int32.le_trans h.1.2.2.2.2.2.2.2.1 (by decide)))
    · exact ih _ _ _ h
theorem pass_keep : ∀ (r i : Nat) (f : Nat → Int32) (g : Nat → Int32 → Int32) (m : Int32), XV f g T → (∀ j, j < i + r → Bo f (nI j)) → XV (passL T r i f g m).2.1 (passL T r i f g m).2.2 T := by
  intro r
  induction r with
  | zero => intro i f g m h _; exact h
  | succ r ih =>
    intro i f g m h hb
    unfold passL
    have hB := h.2.1 _ (hb i (by omega))
    split
    · exact ih _ _ _ _ (h.come hB.2.2.2.2.2.2.2.2.2.2.2.2.1 hB.2.2.2.2.2.2.2.2.2.2.2.2.2) (fun j hj => hb j (by omega))
    · exact ih _ _ _ _ h (fun j hj => hb j (by omega))
theorem oPass_keep {nb : Nat} {n : Int32} (hn : nb ≤ 7) (e0 : f 0 = nI nb) (hV : XV f g T) (hn0 : 0 ≤ n) (hn1 : n ≤ 1000000) : XV (oPass f g T nb n).2.1 (oPass f g T nb n).2.2 T := by
  obtain ⟨a, ha, ea⟩ := f10_nI hV
  obtain ⟨c, hc, ec⟩ := nI_of2 (M := 1000000) (n := 1000000) (by decide) (Int32.not_lt.mpr hn0) hn1
  exact pass_keep _ _ _ _ _ (hV.upd (by right; right; left; exact ⟨rfl, min_bd (n := a + c) (by rw [ea, ec, nI_add]) (by omega)⟩)) (fun j hj => bo_nI (f := upd f 10 _) e0 (by omega) hn)
end P65
section X65
variable {Γ : Gam} {A : Nat → Prop} {L : Nat → Nat} {f : Nat → Int32} {g : Nat → Int32 → Int32} {T : TX} {P : PH → Prop}
theorem c_Xlaunch {x : Int32} {nb : Nat} (hn : nb ≤ 7) (e0 : f 0 = nI nb) (hV : XV f g T) : Ct Γ A yX0_launch wX0_launch 177 0 0 [.ref (L 35), .int x] (XI Γ L f g T TT) (RI (XO Γ L T (oLaunch f g T nb x))) := by
  refine Ct.of (cc := cX0_launch) (nL := 4) (ret := (some .int)) (ls := [some (.ref (L 35)), some (.int x), none, none]) rfl rfl rfl (nle rfl) ?_
  intro K hK hQ
  have loop : ∀ (s : Nat) (t : Int32), s < 128 → x = nI s → ∀ (r i : Nat) (f1 : Nat → Int32) (g1 : Nat → Int32 → Int32), i + r = nb → f1 0 = nI nb → XV f1 g1 T → oLaunch f g T nb x = (t, lauL T s r i f1 g1) → J Γ A K 25 [some (.ref (L 35)), some (.int x), some (.int t), some (.int (nI i))] [] (XI Γ L f1 g1 T TT) 0 0 := by
    intro s t hs ex r
    induction r with
    | zero =>
      intro i f1 g1 hi e1 hV hq
      refine j_iload_n (pc := 25) hK dX0_launch_25 rfl ?_
      refine j_aload_n (pc := 26) hK dX0_launch_26 rfl ?_
      refine xi_getF (pc := 27) (k := 6) (n := 0) hK (fun _ w => w) rfl rfl (by decide) rfl q754 rfl dX0_launch_27 ?_
      refine j_icmp_ge (pc := 30) (tgt := 57) hK dX0_launch_30 (by decide) (fun c30 => ?_) (fun c30 => absurd (by rw [e1]; exact nI_le (by omega) (by omega)) c30)
      refine j_iload_n (pc := 57) hK dX0_launch_57 rfl ?_
      exact j_iret (pc := 58) hK hQ (nle rfl) (nle rfl) dX0_launch_58 (fun h w => ⟨_, rfl, _, _, hq, w⟩)
    | succ r ih =>
      intro i f1 g1 hi e1 hV hq
      have hb : Bo f1 (nI i) := bo_nI e1 (by omega) hn
      have hB := hV.2.1 _ hb
      have a0 : -1 ≤ f1 10 := Int32.le_trans (by decide) hV.1.2.2.2.2.2.2.1
      have a1 : f1 10 ≤ 99999 := Int32.le_trans hV.1.2.2.2.2.2.2.2.1 (by decide)
      have ebit : (x >>> (nI i &&& 31)) &&& 1 = nI (s / 2 ^ i % 2) := by rw [ex]; exact bit_s s hs i (by omega)
      have hlt : s / 2 ^ i % 2 < 2 := Nat.mod_lt _ (by decide)
      refine j_iload_n (pc := 25) hK dX0_launch_25 rfl ?_
      refine j_aload_n (pc := 26) hK dX0_launch_26 rfl ?_
      refine xi_getF (pc := 27) (k := 6) (n := 0) hK (fun _ w => w) rfl rfl (by decide) rfl q754 rfl dX0_launch_27 ?_
      refine j_icmp_ge (pc := 30) (tgt := 57) hK dX0_launch_30 (by decide) (fun c30 => absurd c30 (by rw [e1]; exact nI_ge (by omega) (by omega))) (fun c30 => ?_)
      refine j_iload_n (pc := 33) hK dX0_launch_33 rfl ?_
      refine j_iload_n (pc := 34) hK dX0_launch_34 rfl ?_
      refine j_ishr (pc := 35) hK dX0_launch_35 ?_
      refine j_iconst (pc := 36) (v := 1) hK dX0_launch_36 (by decide) ?_
      refine j_iand (pc := 37) hK dX0_launch_37 ?_
      rw [ebit]
      refine j_iconst (pc := 38) (v := 1) hK dX0_launch_38 (by decide) ?_
      refine j_icmp_ne (pc := 39) (tgt := 51) hK dX0_launch_39 (by decide) (fun c39 => ?_) (fun c39 => ?_)
      · refine j_iinc3 (pc := 51) (v := 1) hK dX0_launch_51 (by decide) rfl (by decide) ?_
        refine j_goto (pc := 54) (tgt := 25) hK dX0_launch_54 (by decide) ?_
        rw [nI_1]
        first
          | exact ih (i + 1) _ _ (by omega) e1 hV (by rw [hq, lauL_n (fun z => c39 (by rw [z]; decide))])
          | exact ih (i + 1) _ _ (by omega) ((come_k (by decide) (by decide)).trans e1) (hV.come a0 a1) (by rw [hq, lauL_p ((nI_eq (by omega) (by decide)).mp (c39.trans (show (1 : Int32) = nI 1 by decide)))])
      · refine j_aload_n (pc := 42) hK dX0_launch_42 rfl ?_
        refine j_iload_n (pc := 43) hK dX0_launch_43 rfl ?_
        refine j_aload_n (pc := 44) hK dX0_launch_44 rfl ?_
        refine xi_getF (pc := 45) (k := 8) (n := 10) hK (fun _ w => w) rfl rfl (by decide) rfl q758 rfl dX0_launch_45 ?_
        refine j_callV (pc := 48) hK hQ (c_XcomesIn hb hV.1.2.1 hB hV.2.2 a0 a1) cal_X0_comesIn (xi_isC (fun _ w => w)) q885 dX0_launch_48 rfl rfl (nle rfl) (nle rfl) (nle rfl) (nle rfl) (kr_v ?_) kx_v
        refine j_iinc3 (pc := 51) (v := 1) hK dX0_launch_51 (by decide) rfl (by decide) ?_
        refine j_goto (pc := 54) (tgt := 25) hK dX0_launch_54 (by decide) ?_
        rw [nI_1]
        first
          | exact ih (i + 1) _ _ (by omega) e1 hV (by rw [hq, lauL_n (fun z => c39 (by rw [z]; decide))])
          | exact ih (i + 1) _ _ (by omega) ((come_k (by decide) (by decide)).trans e1) (hV.come a0 a1) (by rw [hq, lauL_p ((nI_eq (by omega) (by decide)).mp (c39.trans (show (1 : Int32) = nI 1 by decide)))])
  refine j_aload_n (pc := 0) hK dX0_launch_0 rfl ?_
  refine j_iload_n (pc := 1) hK dX0_launch_1 rfl ?_
  refine j_callV (pc := 2) hK hQ (c_XisFetched hn e0) cal_X0_isFetched (xi_isC (fun _ w => w)) q909 dX0_launch_2 rfl rfl (nle rfl) (nle rfl) (nle rfl) (nle rfl) (kr_i fun r2 => ?_) kx_i
  refine J.pre fun e2a => ?_
  refine J.pre fun e2 => ?_
  refine j_if_ne (pc := 5) (tgt := 11) hK dX0_launch_5 (by decide) (fun c5 => ?_) (fun c5 => ?_)
  · have hr1 : r2 = 1 := by rcases e2a with q | q; exact absurd q c5; exact q
    obtain ⟨s, es, hs, hlk⟩ := e2.mp hr1
    have h128 := pow_128 hn
    have ecl : x.toNatClampNeg = s := by rw [es]; exact nI_clamp (by omega)
    have hof : oLaunch f g T nb x = ((fetI f g nb s).1, lauL T s nb 0 (oPass f g T nb (fetI f g nb s).1).2.1 (oPass f g T nb (fetI f g nb s).1).2.2) := by
      unfold oLaunch
      rw [iteP_f (fun z => z ⟨s, es, hs, hlk⟩), ecl]
    obtain ⟨t, ht, et⟩ := fet_t hn e0 hV hs
    have t0 : 0 ≤ (fetI f g nb s).1 := by rw [et]; exact Int32.not_lt.mp (nI_pos (by omega))
    have t1 : (fetI f g nb s).1 ≤ 1000000 := by rw [et]; exact nI_le (b := 1000000) (by omega) (by decide)
    refine j_aload_n (pc := 11) hK dX0_launch_11 rfl ?_
    refine j_iload_n (pc := 12) hK dX0_launch_12 rfl ?_
    rw [show (Value.int x) = .int (nI s) by rw [es]]
    refine j_callV (pc := 13) hK hQ (c_Xfetches hn e0 hV (show s < 128 by omega)) cal_X0_fetches (xi_isC (fun _ w => w)) q918 dX0_launch_13 rfl rfl (nle rfl) (nle rfl) (nle rfl) (nle rfl) (kr_i fun r13 => ?_) kx_i
    refine J.pre fun e13 => ?_
    subst e13
    refine J.mono (P' := XI Γ L f g T TT) (fun h w => xi_mono (fun _ _ => trivial) _ w) ?_
    refine j_ist2 (pc := 16) hK dX0_launch_16 (by decide) rfl ?_
    refine j_aload_n (pc := 17) hK dX0_launch_17 rfl ?_
    refine j_iload_n (pc := 18) hK dX0_launch_18 rfl ?_
    refine j_callV (pc := 19) hK hQ (c_Xpasses hn e0 hV t0 t1) cal_X0_passes (xi_isC (fun _ w => w)) q881 dX0_launch_19 rfl rfl (nle rfl) (nle rfl) (nle rfl) (nle rfl) (kr_i fun r19 => ?_) kx_i
    refine J.ex fun f2 => J.ex fun g2 => J.pre fun e19 => ?_
    refine j_pop (pc := 22) hK dX0_launch_22 rfl ?_
    refine j_iconst (pc := 23) (v := 0) hK dX0_launch_23 (by decide) ?_
    refine j_ist3 (pc := 24) hK dX0_launch_24 (by decide) rfl ?_
    have ef : f2 = (oPass f g T nb (fetI f g nb s).1).2.1 := by rw [e19]
    have eg : g2 = (oPass f g T nb (fetI f g nb s).1).2.2 := by rw [e19]
    rw [← es]
    exact loop s _ (by omega) es nb 0 f2 g2 (by omega) (by rw [ef, oPass_k (by decide) (by decide) (by decide)]; exact e0) (by rw [ef, eg]; exact oPass_keep hn e0 hV t0 t1) (by rw [hof, ef, eg])
  · refine j_bipush (pc := 8) (v := (-2)) hK dX0_launch_8 (by decide) ?_
    exact j_iret (pc := 10) hK hQ (nle rfl) (nle rfl) dX0_launch_10 (fun h w => ⟨_, rfl, _, _, (by unfold oLaunch; exact iteP_t (fun z => by have := e2.mpr z; rw [c5] at this; exact absurd this (by decide))), w⟩)
theorem c_Xone {what : Int32} {nb : Nat} (hn : nb ≤ 7) (e0 : f 0 = nI nb) (hV : XV f g T) : Ct Γ A yX0_one_2 wX0_one_2 15 0 0 [.ref (L 35), .int what] (XI Γ L f g T TT) (RI fun r h => r = oOne f g nb what ∧ XI Γ L f g T TT h) := by
  refine Ct.of (cc := cX0_one_2) (nL := 6) (ret := (some .int)) (ls := [some (.ref (L 35)), some (.int what), none, none, none, none]) rfl rfl rfl (nle rfl) ?_
  intro K hK hQ
  have loop : oOne f g nb what = (if what = 0 then (oneL f g nb nb 0 (-1) 0).1 else (oneL f g nb nb 0 (-1) 0).2) → ∀ (r i : Nat) (b l : Int32), i + r = nb → (b = -1 ∨ ∃ j, j < 7 ∧ b = nI j) → oneL f g nb r i b l = oneL f g nb nb 0 (-1) 0 → J Γ A K 20 [some (.ref (L 35)), some (.int what), some (.int b), some (.int l), some (.int (nI i)), none] [] (XI Γ L f g T TT) 0 0 := by
    intro hq r
    induction r with
    | zero =>
      intro i b l hi hbb hp
      refine j_iload (pc := 20) hK dX0_one_2_20 rfl ?_
      refine j_aload_n (pc := 22) hK dX0_one_2_22 rfl ?_
      refine xi_getF (pc := 23) (k := 6) (n := 0) hK (fun _ w => w) rfl rfl (by decide) rfl q754 rfl dX0_one_2_23 ?_
      refine j_icmp_ge (pc := 26) (tgt := 82) hK dX0_one_2_26 (by decide) (fun c26 => ?_) (fun c26 => absurd (by rw [e0]; exact nI_le (by omega) (by omega)) c26)
      refine j_iload_n (pc := 82) hK dX0_one_2_82 rfl ?_
      refine j_if_ne (pc := 83) (tgt := 90) hK dX0_one_2_83 (by decide) (fun c83 => ?_) (fun c83 => ?_)
      · refine j_iload_n (pc := 90) hK dX0_one_2_90 rfl ?_
        exact j_iret (pc := 91) hK hQ (nle rfl) (nle rfl) dX0_one_2_91 (fun h w => ⟨_, rfl, by rw [hq, ← hp]; first | rw [if_pos c83]; rfl | rw [if_neg c83]; rfl, w⟩)
      · refine j_iload_n (pc := 86) hK dX0_one_2_86 rfl ?_
        refine j_goto (pc := 87) (tgt := 91) hK dX0_one_2_87 (by decide) ?_
        exact j_iret (pc := 91) hK hQ (nle rfl) (nle rfl) dX0_one_2_91 (fun h w => ⟨_, rfl, by rw [hq, ← hp]; first | rw [if_pos c83]; rfl | rw [if_neg c83]; rfl, w⟩)
    | succ r ih =>
      intro i b l hi hbb hp
      have hb : Bo f (nI i) := bo_nI e0 (by omega) hn
      have h128 := pow_128 hn
      have h2i : 2 ^ i < 2 ^ nb := Nat.pow_lt_pow_right (a := 2) (by decide) (show i < nb by omega)
      obtain ⟨t, ht, et⟩ := fet_t hn e0 hV h2i
      have tm1 : ¬ (fetI f g nb (2 ^ i)).1 = -1 := by rw [et]; exact nI_m1 (by omega)
      have hbl : b = -1 ↔ b < 0 := by
        rcases hbb with z | ⟨j, hj, z⟩
        · rw [z]; decide
        · rw [z]; exact ⟨fun y => absurd y (nI_m1 (by omega)), fun y => absurd y (nI_pos (by omega))⟩
      refine j_iload (pc := 20) hK dX0_one_2_20 rfl ?_
      refine j_aload_n (pc := 22) hK dX0_one_2_22 rfl ?_
      refine xi_getF (pc := 23) (k := 6) (n := 0) hK (fun _ w => w) rfl rfl (by decide) rfl q754 rfl dX0_one_2_23 ?_
      refine j_icmp_ge (pc := 26) (tgt := 82) hK dX0_one_2_26 (by decide) (fun c26 => absurd c26 (by rw [e0]; exact nI_ge (by omega) (by omega))) (fun c26 => ?_)
      refine j_aload_n (pc := 29) hK dX0_one_2_29 rfl ?_
      refine xi_getR (pc := 30) (k := 4) hK (fun _ w => w) (by decide) rfl q752 rfl dX0_one_2_30 ?_
      refine j_iload (pc := 33) hK dX0_one_2_33 rfl ?_
      refine xi_aldB (pc := 35) (k := 4) (n := 6) hK (fun _ w => w) (by decide) rfl rfl rfl rfl hb dX0_one_2_35 ?_
      refine j_if_ne (pc := 36) (tgt := 50) hK dX0_one_2_36 (by decide) (fun c36 => ?_) (fun c36 => ?_)
      · refine j_iconst (pc := 50) (v := (-1)) hK dX0_one_2_50 (by decide) ?_
        refine j_ist5 (pc := 51) hK dX0_one_2_51 (by decide) rfl ?_
        refine j_iload (pc := 53) hK dX0_one_2_53 rfl ?_
        refine j_iconst (pc := 55) (v := (-1)) hK dX0_one_2_55 (by decide) ?_
        refine j_icmp_eq (pc := 56) (tgt := 76) hK dX0_one_2_56 (by decide) (fun c56 => ?_) (fun c56 => absurd (by decide) c56)
        refine j_iinc4 (pc := 76) (v := 1) hK dX0_one_2_76 (by decide) rfl (by decide) ?_
        refine j_goto (pc := 79) (tgt := 20) hK dX0_one_2_79 (by decide) ?_
        rw [nI_1]
        first
          | (refine J.fg _ ?_ (ih (i + 1) b l (by omega) hbb (by rw [← hp]; first | exact (oneL_a c36).symm | exact (oneL_b c36 (fun z => c61 (hbl.mpr z)) (Int32.not_lt.mpr c67)).symm)); exact ⟨rfl, rfl, rfl, rfl, rfl, trivial⟩)
          | (refine J.fg _ ?_ (ih (i + 1) (nI i) _ (by omega) (Or.inr ⟨i, by omega, rfl⟩) (by rw [← hp]; first | exact (oneL_c c36 (Or.inl (hbl.mp c61))).symm | exact (oneL_c c36 (Or.inr (Int32.not_le.mp c67))).symm)); exact ⟨rfl, rfl, rfl, rfl, rfl, trivial⟩)
          | exact absurd c56 tm1
          | exact absurd rfl c56
      · refine j_aload_n (pc := 39) hK dX0_one_2_39 rfl ?_
        refine j_iconst (pc := 40) (v := 1) hK dX0_one_2_40 (by decide) ?_
        refine j_iload (pc := 41) hK dX0_one_2_41 rfl ?_
        refine j_ishl (pc := 43) hK dX0_one_2_43 ?_
        rw [shl_i i (by omega)]
        refine j_callV (pc := 44) hK hQ (c_Xfetches hn e0 hV (show 2 ^ i < 128 by omega)) cal_X0_fetches (xi_isC (fun _ w => w)) q918 dX0_one_2_44 rfl rfl (nle rfl) (nle rfl) (nle rfl) (nle rfl) (kr_i fun r44 => ?_) kx_i
        refine J.pre fun e44 => ?_
        subst e44
        refine J.mono (P' := XI Γ L f g T TT) (fun h w => xi_mono (fun _ _ => trivial) _ w) ?_
        refine j_goto (pc := 47) (tgt := 51) hK dX0_one_2_47 (by decide) ?_
        refine j_ist5 (pc := 51) hK dX0_one_2_51 (by decide) rfl ?_
        refine j_iload (pc := 53) hK dX0_one_2_53 rfl ?_
        refine j_iconst (pc := 55) (v := (-1)) hK dX0_one_2_55 (by decide) ?_
        refine j_icmp_eq (pc := 56) (tgt := 76) hK dX0_one_2_56 (by decide) (fun c56 => ?_) (fun c56 => ?_)
        · refine j_iinc4 (pc := 76) (v := 1) hK dX0_one_2_76 (by decide) rfl (by decide) ?_
          refine j_goto (pc := 79) (tgt := 20) hK dX0_one_2_79 (by decide) ?_
          rw [nI_1]
          first
            | (refine J.fg _ ?_ (ih (i + 1) b l (by omega) hbb (by rw [← hp]; first | exact (oneL_a c36).symm | exact (oneL_b c36 (fun z => c61 (hbl.mpr z)) (Int32.not_lt.mpr c67)).symm)); exact ⟨rfl, rfl, rfl, rfl, rfl, trivial⟩)
            | (refine J.fg _ ?_ (ih (i + 1) (nI i) _ (by omega) (Or.inr ⟨i, by omega, rfl⟩) (by rw [← hp]; first | exact (oneL_c c36 (Or.inl (hbl.mp c61))).symm | exact (oneL_c c36 (Or.inr (Int32.not_le.mp c67))).symm)); exact ⟨rfl, rfl, rfl, rfl, rfl, trivial⟩)
            | exact absurd c56 tm1
            | exact absurd rfl c56
        · refine j_iload_n (pc := 59) hK dX0_one_2_59 rfl ?_
          refine j_iconst (pc := 60) (v := (-1)) hK dX0_one_2_60 (by decide) ?_
          refine j_icmp_eq (pc := 61) (tgt := 70) hK dX0_one_2_61 (by decide) (fun c61 => ?_) (fun c61 => ?_)
          · refine j_iload (pc := 70) hK dX0_one_2_70 rfl ?_
            refine j_ist2 (pc := 72) hK dX0_one_2_72 (by decide) rfl ?_
            refine j_iload (pc := 73) hK dX0_one_2_73 rfl ?_
            refine j_ist3 (pc := 75) hK dX0_one_2_75 (by decide) rfl ?_
            refine j_iinc4 (pc := 76) (v := 1) hK dX0_one_2_76 (by decide) rfl (by decide) ?_
            refine j_goto (pc := 79) (tgt := 20) hK dX0_one_2_79 (by decide) ?_
            rw [nI_1]
            first
              | (refine J.fg _ ?_ (ih (i + 1) b l (by omega) hbb (by rw [← hp]; first | exact (oneL_a c36).symm | exact (oneL_b c36 (fun z => c61 (hbl.mpr z)) (Int32.not_lt.mpr c67)).symm)); exact ⟨rfl, rfl, rfl, rfl, rfl, trivial⟩)
              | (refine J.fg _ ?_ (ih (i + 1) (nI i) _ (by omega) (Or.inr ⟨i, by omega, rfl⟩) (by rw [← hp]; first | exact (oneL_c c36 (Or.inl (hbl.mp c61))).symm | exact (oneL_c c36 (Or.inr (Int32.not_le.mp c67))).symm)); exact ⟨rfl, rfl, rfl, rfl, rfl, trivial⟩)
              | exact absurd c56 tm1
              | exact absurd rfl c56
          · refine j_iload (pc := 64) hK dX0_one_2_64 rfl ?_
            refine j_iload_n (pc := 66) hK dX0_one_2_66 rfl ?_
            refine j_icmp_ge (pc := 67) (tgt := 76) hK dX0_one_2_67 (by decide) (fun c67 => ?_) (fun c67 => ?_)
            · refine j_iinc4 (pc := 76) (v := 1) hK dX0_one_2_76 (by decide) rfl (by decide) ?_
              refine j_goto (pc := 79) (tgt := 20) hK dX0_one_2_79 (by decide) ?_
              rw [nI_1]
              first
                | (refine J.fg _ ?_ (ih (i + 1) b l (by omega) hbb (by rw [← hp]; first | exact (oneL_a c36).symm | exact (oneL_b c36 (fun z => c61 (hbl.mpr z)) (Int32.not_lt.mpr c67)).symm)); exact ⟨rfl, rfl, rfl, rfl, rfl, trivial⟩)
                | (refine J.fg _ ?_ (ih (i + 1) (nI i) _ (by omega) (Or.inr ⟨i, by omega, rfl⟩) (by rw [← hp]; first | exact (oneL_c c36 (Or.inl (hbl.mp c61))).symm | exact (oneL_c c36 (Or.inr (Int32.not_le.mp c67))).symm)); exact ⟨rfl, rfl, rfl, rfl, rfl, trivial⟩)
                | exact absurd c56 tm1
                | exact absurd rfl c56
            · refine j_iload (pc := 70) hK dX0_one_2_70 rfl ?_
              refine j_ist2 (pc := 72) hK dX0_one_2_72 (by decide) rfl ?_
              refine j_iload (pc := 73) hK dX0_one_2_73 rfl ?_
              refine j_ist3 (pc := 75) hK dX0_one_2_75 (by decide) rfl ?_
              refine j_iinc4 (pc := 76) (v := 1) hK dX0_one_2_76 (by decide) rfl (by decide) ?_
              refine j_goto (pc := 79) (tgt := 20) hK dX0_one_2_79 (by decide) ?_
              rw [nI_1]
              first
                | (refine J.fg _ ?_ (ih (i + 1) b l (by omega) hbb (by rw [← hp]; first | exact (oneL_a c36).symm | exact (oneL_b c36 (fun z => c61 (hbl.mpr z)) (Int32.not_lt.mpr c67)).symm)); exact ⟨rfl, rfl, rfl, rfl, rfl, trivial⟩)
                | (refine J.fg _ ?_ (ih (i + 1) (nI i) _ (by omega) (Or.inr ⟨i, by omega, rfl⟩) (by rw [← hp]; first | exact (oneL_c c36 (Or.inl (hbl.mp c61))).symm | exact (oneL_c c36 (Or.inr (Int32.not_le.mp c67))).symm)); exact ⟨rfl, rfl, rfl, rfl, rfl, trivial⟩)
                | exact absurd c56 tm1
                | exact absurd rfl c56
  refine j_iload_n (pc := 0) hK dX0_one_2_0 rfl ?_
  refine j_i2l (pc := 1) hK dX0_one_2_1 ?_
  refine j_lconst (pc := 2) (v := 0) hK dX0_one_2_2 (by decide) ?_
  refine j_lconst (pc := 3) (v := 1) hK dX0_one_2_3 (by decide) ?_
  refine j_callS (pc := 4) hK hQ (c_Xin (l := 0) (u := 1) (by decide) (by decide)) cal_X0_in q106 dX0_one_2_4 rfl rfl (nle rfl) (nle rfl) (nle rfl) (nle rfl) (kr_i fun r4 => ?_) kx_i
  refine J.pre fun e4 => ?_
  subst e4
  refine j_if_ne_b (pc := 7) (tgt := 13) hK dX0_one_2_7 (by decide) (fun c7 => ?_) (fun c7 => ?_)
  · refine j_iconst (pc := 13) (v := (-1)) hK dX0_one_2_13 (by decide) ?_
    refine j_ist2 (pc := 14) hK dX0_one_2_14 (by decide) rfl ?_
    refine j_iconst (pc := 15) (v := 0) hK dX0_one_2_15 (by decide) ?_
    refine j_ist3 (pc := 16) hK dX0_one_2_16 (by decide) rfl ?_
    refine j_iconst (pc := 17) (v := 0) hK dX0_one_2_17 (by decide) ?_
    refine j_ist4 (pc := 18) hK dX0_one_2_18 (by decide) rfl ?_
    exact loop (by unfold oOne; rw [if_neg (fun z => z c7)]) nb 0 _ _ (by omega) (Or.inl rfl) rfl
  · refine j_bipush (pc := 10) (v := (-2)) hK dX0_one_2_10 (by decide) ?_
    exact j_iret (pc := 12) hK hQ (nle rfl) (nle rfl) dX0_one_2_12 (fun h w => ⟨_, rfl, (by unfold oOne; exact (if_pos c7).symm), w⟩)
theorem c_XmostFetched {n : Int32} {nb : Nat} (hn : nb ≤ 7) (e0 : f 0 = nI nb) (hV : XV f g T) : Ct Γ A yX0_mostFetched wX0_mostFetched 15 0 0 [.ref (L 35), .int (nobS f g T nb), .int n] (XI Γ L f g T TT) (RI fun r h => r = nI (mxI f g T nb n (2 ^ nb - 1)) ∧ XI Γ L f g T TT h) := by
  have h128 := pow_128 hn
  obtain ⟨ea, la⟩ := nobS_N (f := f) (g := g) (T := T) nb hn
  have hsub : nobN f g T nb &&& nobN f g T nb = nobN f g T nb := Nat.and_self _
  rw [ea]
  refine Ct.of (cc := cX0_mostFetched) (nL := 6) (ret := (some .int)) (ls := [some (.ref (L 35)), some (.int (nI (nobN f g T nb))), some (.int n), none, none, none]) rfl rfl rfl (nle rfl) ?_
  intro K hK hQ
  have loop : ∀ (r c m : Nat), c < r → c < 2 ^ nb → c &&& nobN f g T nb = c → m ≤ 7 → mF f g nb (nobN f g T nb) n c m → J Γ A K 5 [some (.ref (L 35)), some (.int (nI (nobN f g T nb))), some (.int n), some (.int (nI m)), some (.int (nI c)), none] [] (XI Γ L f g T TT) 0 0 := by
    intro r
    induction r with
    | zero => intro c m h; omega
    | succ r ih =>
      intro c m hr hc hs hm7 hm
      rcases Nat.eq_zero_or_pos c with z | z
      · subst z
        refine j_iload (pc := 5) hK dX0_mostFetched_5 rfl ?_
        refine j_if_le (pc := 7) (tgt := 51) hK dX0_mostFetched_7 (by decide) (fun c7 => ?_) (fun c7 => absurd (by decide) c7)
        refine j_iload_n (pc := 51) hK dX0_mostFetched_51 rfl ?_
        exact j_iret (pc := 52) hK hQ (nle rfl) (nle rfl) dX0_mostFetched_52 (fun h w => ⟨_, rfl, by rw [mF_end hn hm], w⟩)
      · have hp7 : pc7 c ≤ 7 := by unfold pc7; omega
        have hnx : (c - 1) &&& nobN f g T nb ≤ c - 1 := Nat.and_le_left
        refine j_iload (pc := 5) hK dX0_mostFetched_5 rfl ?_
        refine j_if_le (pc := 7) (tgt := 51) hK dX0_mostFetched_7 (by decide) (fun c7 => absurd c7 (by rw [show (0 : Int32) = nI 0 by decide]; exact nI_ge z (by omega))) (fun c7 => ?_)
        refine j_iload (pc := 10) hK dX0_mostFetched_10 rfl ?_
        refine j_callS (pc := 12) hK hQ (c_bitCount _) cal_J9_bitCount q922 dX0_mostFetched_12 rfl rfl (nle rfl) (nle rfl) (nle rfl) (nle rfl) (kr_i fun r12 => ?_) kx_i
        refine J.pre fun e12 => ?_
        rw [bc_pc c (by omega)] at e12
        subst e12
        refine j_ist5 (pc := 15) hK dX0_mostFetched_15 (by decide) rfl ?_
        refine j_iload (pc := 17) hK dX0_mostFetched_17 rfl ?_
        refine j_iload_n (pc := 19) hK dX0_mostFetched_19 rfl ?_
        refine j_icmp_le (pc := 20) (tgt := 38) hK dX0_mostFetched_20 (by decide) (fun c20 => ?_) (fun c20 => ?_)
        · have hcc : ¬ (m < pc7 c ∧ (fetI f g nb c).1 ≤ n) := by
            rintro ⟨y1, y2⟩
            first | exact absurd c20 (nI_ge y1 (by omega)) | exact absurd y2 (Int32.not_le.mpr c30)
          refine j_iload_n (pc := 38) hK dX0_mostFetched_38 rfl ?_
          refine j_ist3 (pc := 39) hK dX0_mostFetched_39 (by decide) rfl ?_
          refine j_iload (pc := 40) hK dX0_mostFetched_40 rfl ?_
          refine j_iconst (pc := 42) (v := 1) hK dX0_mostFetched_42 (by decide) ?_
          refine j_isub (pc := 43) hK dX0_mostFetched_43 ?_
          refine j_iload_n (pc := 44) hK dX0_mostFetched_44 rfl ?_
          refine j_iand (pc := 45) hK dX0_mostFetched_45 ?_
          rw [pred_and c (by omega) _ (by omega) z]
          refine j_ist4 (pc := 46) hK dX0_mostFetched_46 (by decide) rfl ?_
          refine j_goto (pc := 48) (tgt := 5) hK dX0_mostFetched_48 (by decide) ?_
          first
            | (refine J.fg _ ?_ (ih ((c - 1) &&& nobN f g T nb) (pc7 c) (by omega) (by omega) (and_sub _ (by omega) c (by omega)) hp7 (mF_step hn la hc z hs hm (if_pos hcc).symm)); exact ⟨rfl, rfl, rfl, rfl, rfl, trivial⟩)
            | (refine J.fg _ ?_ (ih ((c - 1) &&& nobN f g T nb) m (by omega) (by omega) (and_sub _ (by omega) c (by omega)) hm7 (mF_step hn la hc z hs hm (if_neg hcc).symm)); exact ⟨rfl, rfl, rfl, rfl, rfl, trivial⟩)
        · refine j_aload_n (pc := 23) hK dX0_mostFetched_23 rfl ?_
          refine j_iload (pc := 24) hK dX0_mostFetched_24 rfl ?_
          refine j_callV (pc := 26) hK hQ (c_Xfetches hn e0 hV (show c < 128 by omega)) cal_X0_fetches (xi_isC (fun _ w => w)) q918 dX0_mostFetched_26 rfl rfl (nle rfl) (nle rfl) (nle rfl) (nle rfl) (kr_i fun r26 => ?_) kx_i
          refine J.pre fun e26 => ?_
          subst e26
          refine J.mono (P' := XI Γ L f g T TT) (fun h w => xi_mono (fun _ _ => trivial) _ w) ?_
          refine j_iload_n (pc := 29) hK dX0_mostFetched_29 rfl ?_
          refine j_icmp_gt (pc := 30) (tgt := 38) hK dX0_mostFetched_30 (by decide) (fun c30 => ?_) (fun c30 => ?_)
          · have hcc : ¬ (m < pc7 c ∧ (fetI f g nb c).1 ≤ n) := by
              rintro ⟨y1, y2⟩
              first | exact absurd c20 (nI_ge y1 (by omega)) | exact absurd y2 (Int32.not_le.mpr c30)
            refine j_iload_n (pc := 38) hK dX0_mostFetched_38 rfl ?_
            refine j_ist3 (pc := 39) hK dX0_mostFetched_39 (by decide) rfl ?_
            refine j_iload (pc := 40) hK dX0_mostFetched_40 rfl ?_
            refine j_iconst (pc := 42) (v := 1) hK dX0_mostFetched_42 (by decide) ?_
            refine j_isub (pc := 43) hK dX0_mostFetched_43 ?_
            refine j_iload_n (pc := 44) hK dX0_mostFetched_44 rfl ?_
            refine j_iand (pc := 45) hK dX0_mostFetched_45 ?_
            rw [pred_and c (by omega) _ (by omega) z]
            refine j_ist4 (pc := 46) hK dX0_mostFetched_46 (by decide) rfl ?_
            refine j_goto (pc := 48) (tgt := 5) hK dX0_mostFetched_48 (by decide) ?_
            first
              | (refine J.fg _ ?_ (ih ((c - 1) &&& nobN f g T nb) (pc7 c) (by omega) (by omega) (and_sub _ (by omega) c (by omega)) hp7 (mF_step hn la hc z hs hm (if_pos hcc).symm)); exact ⟨rfl, rfl, rfl, rfl, rfl, trivial⟩)
              | (refine J.fg _ ?_ (ih ((c - 1) &&& nobN f g T nb) m (by omega) (by omega) (and_sub _ (by omega) c (by omega)) hm7 (mF_step hn la hc z hs hm (if_neg hcc).symm)); exact ⟨rfl, rfl, rfl, rfl, rfl, trivial⟩)
          · have hcc : m < pc7 c ∧ (fetI f g nb c).1 ≤ n := ⟨Nat.lt_of_not_le (fun y => c20 (nI_le y (by omega))), Int32.not_lt.mp c30⟩
            refine j_iload (pc := 33) hK dX0_mostFetched_33 rfl ?_
            refine j_goto (pc := 35) (tgt := 39) hK dX0_mostFetched_35 (by decide) ?_
            refine j_ist3 (pc := 39) hK dX0_mostFetched_39 (by decide) rfl ?_
            refine j_iload (pc := 40) hK dX0_mostFetched_40 rfl ?_
            refine j_iconst (pc := 42) (v := 1) hK dX0_mostFetched_42 (by decide) ?_
            refine j_isub (pc := 43) hK dX0_mostFetched_43 ?_
            refine j_iload_n (pc := 44) hK dX0_mostFetched_44 rfl ?_
            refine j_iand (pc := 45) hK dX0_mostFetched_45 ?_
            rw [pred_and c (by omega) _ (by omega) z]
            refine j_ist4 (pc := 46) hK dX0_mostFetched_46 (by decide) rfl ?_
            refine j_goto (pc := 48) (tgt := 5) hK dX0_mostFetched_48 (by decide) ?_
            first
              | (refine J.fg _ ?_ (ih ((c - 1) &&& nobN f g T nb) (pc7 c) (by omega) (by omega) (and_sub _ (by omega) c (by omega)) hp7 (mF_step hn la hc z hs hm (if_pos hcc).symm)); exact ⟨rfl, rfl, rfl, rfl, rfl, trivial⟩)
              | (refine J.fg _ ?_ (ih ((c - 1) &&& nobN f g T nb) m (by omega) (by omega) (and_sub _ (by omega) c (by omega)) hm7 (mF_step hn la hc z hs hm (if_neg hcc).symm)); exact ⟨rfl, rfl, rfl, rfl, rfl, trivial⟩)
  refine j_iconst (pc := 0) (v := 0) hK dX0_mostFetched_0 (by decide) ?_
  refine j_ist3 (pc := 1) hK dX0_mostFetched_1 (by decide) rfl ?_
  refine j_iload_n (pc := 2) hK dX0_mostFetched_2 rfl ?_
  refine j_ist4 (pc := 3) hK dX0_mostFetched_3 (by decide) rfl ?_
  refine loop 128 (nobN f g T nb) 0 (by omega) la hsub (by omega) ⟨fun j q1 q2 q3 => ?_, Or.inl rfl⟩
  have := q3.1
  have h2 : j &&& nobN f g T nb ≤ nobN f g T nb := Nat.and_le_right
  omega
theorem c_Xthunder {n what : Int32} {nb : Nat} (hn : nb ≤ 7) (e0 : f 0 = nI nb) (hV : XV f g T) : Ct Γ A yX0_thunder wX0_thunder 175 0 0 [.ref (L 35), .int n, .int what] (XI Γ L f g T TT) (RI fun r h => r = oThunder f g T nb n what ∧ XI Γ L f g T TT h) := by
  have hN := hV.1.w
  have ho := hV.2.2
  refine Ct.of (cc := cX0_thunder) (nL := 6) (ret := (some .int)) (ls := [some (.ref (L 35)), some (.int n), some (.int what), none, none, none]) rfl rfl rfl (nle rfl) ?_
  intro K hK hQ
  have loop0 : oThunder f g T nb n what = thS f g T n nb → ∀ (r i : Nat), i + r = nb → J Γ A K 45 [some (.ref (L 35)), some (.int n), some (.int what), some (.int (thS f g T n i)), some (.int (nI i)), none] [] (XI Γ L f g T TT) 0 0 := by
    intro hq r
    induction r with
    | zero =>
      intro i hi
      have : i = nb := by omega
      subst this
      refine j_iload (pc := 45) hK dX0_thunder_45 rfl ?_
      refine j_aload_n (pc := 47) hK dX0_thunder_47 rfl ?_
      refine xi_getF (pc := 48) (k := 6) (n := 0) hK (fun _ w => w) rfl rfl (by decide) rfl q754 rfl dX0_thunder_48 ?_
      refine j_icmp_ge (pc := 51) (tgt := 107) hK dX0_thunder_51 (by decide) (fun c51 => ?_) (fun c51 => absurd (by rw [e0]; exact nI_le (by omega) (by omega)) c51)
      refine j_iload_n (pc := 107) hK dX0_thunder_107 rfl ?_
      exact j_iret (pc := 108) hK hQ (nle rfl) (nle rfl) dX0_thunder_108 (fun h w => ⟨_, rfl, hq.symm, w⟩)
    | succ r ih =>
      intro i hi
      have hb : Bo f (nI i) := bo_nI e0 (by omega) hn
      have hB := hV.2.1 _ hb
      have hwl := wbi_lt hV hb
      refine j_iload (pc := 45) hK dX0_thunder_45 rfl ?_
      refine j_aload_n (pc := 47) hK dX0_thunder_47 rfl ?_
      refine xi_getF (pc := 48) (k := 6) (n := 0) hK (fun _ w => w) rfl rfl (by decide) rfl q754 rfl dX0_thunder_48 ?_
      refine j_icmp_ge (pc := 51) (tgt := 107) hK dX0_thunder_51 (by decide) (fun c51 => absurd c51 (by rw [e0]; exact nI_ge (by omega) (by omega))) (fun c51 => ?_)
      refine j_aload_n (pc := 54) hK dX0_thunder_54 rfl ?_
      refine j_iload (pc := 55) hK dX0_thunder_55 rfl ?_
      refine j_callV (pc := 57) hK hQ (c_XwouldBeIn hb hN hB ho) cal_X0_wouldBeIn (xi_isC (fun _ w => w)) q901 dX0_thunder_57 rfl rfl (nle rfl) (nle rfl) (nle rfl) (nle rfl) (kr_i fun r57 => ?_) kx_i
      refine J.pre fun e57 => ?_
      subst e57
      refine j_ist5 (pc := 60) hK dX0_thunder_60 (by decide) rfl ?_
      refine j_iload_n (pc := 62) hK dX0_thunder_62 rfl ?_
      refine j_aload_n (pc := 63) hK dX0_thunder_63 rfl ?_
      refine xi_getR (pc := 64) (k := 4) hK (fun _ w => w) (by decide) rfl q752 rfl dX0_thunder_64 ?_
      refine j_iload (pc := 67) hK dX0_thunder_67 rfl ?_
      refine xi_aldB (pc := 69) (k := 4) (n := 6) hK (fun _ w => w) (by decide) rfl rfl rfl rfl hb dX0_thunder_69 ?_
      refine j_iconst (pc := 70) (v := 2) hK dX0_thunder_70 (by decide) ?_
      refine j_icmp_eq (pc := 71) (tgt := 91) hK dX0_thunder_71 (by decide) (fun c71 => ?_) (fun c71 => ?_)
      · refine j_iconst (pc := 91) (v := 1) hK dX0_thunder_91 (by decide) ?_
        refine j_iload (pc := 92) hK dX0_thunder_92 rfl ?_
        refine j_ishl (pc := 94) hK dX0_thunder_94 ?_
        refine j_goto (pc := 95) (tgt := 99) hK dX0_thunder_95 (by decide) ?_
        refine j_ior (pc := 99) hK dX0_thunder_99 ?_
        refine j_ist3 (pc := 100) hK dX0_thunder_100 (by decide) rfl ?_
        refine j_iinc4 (pc := 101) (v := 1) hK dX0_thunder_101 (by decide) rfl (by decide) ?_
        refine j_goto (pc := 104) (tgt := 45) hK dX0_thunder_104 (by decide) ?_
        rw [nI_1]
        first
          | (rw [← thS_a c71]; refine J.fg _ ?_ (ih (i + 1) (by omega)); exact ⟨rfl, rfl, rfl, rfl, rfl, trivial⟩)
          | (rw [← thS_b (fun z => c77 (hwl.mp z)) c88]; refine J.fg _ ?_ (ih (i + 1) (by omega)); exact ⟨rfl, rfl, rfl, rfl, rfl, trivial⟩)
          | (rw [Int32.or_zero, ← thS_c c71 (hwl.mpr c77)]; refine J.fg _ ?_ (ih (i + 1) (by omega)); exact ⟨rfl, rfl, rfl, rfl, rfl, trivial⟩)
          | (rw [Int32.or_zero, ← thS_d c71 c88]; refine J.fg _ ?_ (ih (i + 1) (by omega)); exact ⟨rfl, rfl, rfl, rfl, rfl, trivial⟩)
      · refine j_iload (pc := 74) hK dX0_thunder_74 rfl ?_
        refine j_iconst (pc := 76) (v := (-1)) hK dX0_thunder_76 (by decide) ?_
        refine j_icmp_eq (pc := 77) (tgt := 98) hK dX0_thunder_77 (by decide) (fun c77 => ?_) (fun c77 => ?_)
        · refine j_iconst (pc := 98) (v := 0) hK dX0_thunder_98 (by decide) ?_
          refine j_ior (pc := 99) hK dX0_thunder_99 ?_
          refine j_ist3 (pc := 100) hK dX0_thunder_100 (by decide) rfl ?_
          refine j_iinc4 (pc := 101) (v := 1) hK dX0_thunder_101 (by decide) rfl (by decide) ?_
          refine j_goto (pc := 104) (tgt := 45) hK dX0_thunder_104 (by decide) ?_
          rw [nI_1]
          first
            | (rw [← thS_a c71]; refine J.fg _ ?_ (ih (i + 1) (by omega)); exact ⟨rfl, rfl, rfl, rfl, rfl, trivial⟩)
            | (rw [← thS_b (fun z => c77 (hwl.mp z)) c88]; refine J.fg _ ?_ (ih (i + 1) (by omega)); exact ⟨rfl, rfl, rfl, rfl, rfl, trivial⟩)
            | (rw [Int32.or_zero, ← thS_c c71 (hwl.mpr c77)]; refine J.fg _ ?_ (ih (i + 1) (by omega)); exact ⟨rfl, rfl, rfl, rfl, rfl, trivial⟩)
            | (rw [Int32.or_zero, ← thS_d c71 c88]; refine J.fg _ ?_ (ih (i + 1) (by omega)); exact ⟨rfl, rfl, rfl, rfl, rfl, trivial⟩)
        · refine j_iload (pc := 80) hK dX0_thunder_80 rfl ?_
          refine j_aload_n (pc := 82) hK dX0_thunder_82 rfl ?_
          refine xi_getF (pc := 83) (k := 8) (n := 10) hK (fun _ w => w) rfl rfl (by decide) rfl q758 rfl dX0_thunder_83 ?_
          refine j_iload_n (pc := 86) hK dX0_thunder_86 rfl ?_
          refine j_iadd (pc := 87) hK dX0_thunder_87 ?_
          refine j_icmp_gt (pc := 88) (tgt := 98) hK dX0_thunder_88 (by decide) (fun c88 => ?_) (fun c88 => ?_)
          · refine j_iconst (pc := 98) (v := 0) hK dX0_thunder_98 (by decide) ?_
            refine j_ior (pc := 99) hK dX0_thunder_99 ?_
            refine j_ist3 (pc := 100) hK dX0_thunder_100 (by decide) rfl ?_
            refine j_iinc4 (pc := 101) (v := 1) hK dX0_thunder_101 (by decide) rfl (by decide) ?_
            refine j_goto (pc := 104) (tgt := 45) hK dX0_thunder_104 (by decide) ?_
            rw [nI_1]
            first
              | (rw [← thS_a c71]; refine J.fg _ ?_ (ih (i + 1) (by omega)); exact ⟨rfl, rfl, rfl, rfl, rfl, trivial⟩)
              | (rw [← thS_b (fun z => c77 (hwl.mp z)) c88]; refine J.fg _ ?_ (ih (i + 1) (by omega)); exact ⟨rfl, rfl, rfl, rfl, rfl, trivial⟩)
              | (rw [Int32.or_zero, ← thS_c c71 (hwl.mpr c77)]; refine J.fg _ ?_ (ih (i + 1) (by omega)); exact ⟨rfl, rfl, rfl, rfl, rfl, trivial⟩)
              | (rw [Int32.or_zero, ← thS_d c71 c88]; refine J.fg _ ?_ (ih (i + 1) (by omega)); exact ⟨rfl, rfl, rfl, rfl, rfl, trivial⟩)
          · refine j_iconst (pc := 91) (v := 1) hK dX0_thunder_91 (by decide) ?_
            refine j_iload (pc := 92) hK dX0_thunder_92 rfl ?_
            refine j_ishl (pc := 94) hK dX0_thunder_94 ?_
            refine j_goto (pc := 95) (tgt := 99) hK dX0_thunder_95 (by decide) ?_
            refine j_ior (pc := 99) hK dX0_thunder_99 ?_
            refine j_ist3 (pc := 100) hK dX0_thunder_100 (by decide) rfl ?_
            refine j_iinc4 (pc := 101) (v := 1) hK dX0_thunder_101 (by decide) rfl (by decide) ?_
            refine j_goto (pc := 104) (tgt := 45) hK dX0_thunder_104 (by decide) ?_
            rw [nI_1]
            first
              | (rw [← thS_a c71]; refine J.fg _ ?_ (ih (i + 1) (by omega)); exact ⟨rfl, rfl, rfl, rfl, rfl, trivial⟩)
              | (rw [← thS_b (fun z => c77 (hwl.mp z)) c88]; refine J.fg _ ?_ (ih (i + 1) (by omega)); exact ⟨rfl, rfl, rfl, rfl, rfl, trivial⟩)
              | (rw [Int32.or_zero, ← thS_c c71 (hwl.mpr c77)]; refine J.fg _ ?_ (ih (i + 1) (by omega)); exact ⟨rfl, rfl, rfl, rfl, rfl, trivial⟩)
              | (rw [Int32.or_zero, ← thS_d c71 c88]; refine J.fg _ ?_ (ih (i + 1) (by omega)); exact ⟨rfl, rfl, rfl, rfl, rfl, trivial⟩)
  refine j_iload_n (pc := 0) hK dX0_thunder_0 rfl ?_
  refine j_i2l (pc := 1) hK dX0_thunder_1 ?_
  refine j_lconst (pc := 2) (v := 0) hK dX0_thunder_2 (by decide) ?_
  refine j_ldc2 (pc := 3) hK q113 dX0_thunder_3 ?_
  refine j_callS (pc := 6) hK hQ (c_Xin (l := 0) (u := 240) (by decide) (by decide)) cal_X0_in q106 dX0_thunder_6 rfl rfl (nle rfl) (nle rfl) (nle rfl) (nle rfl) (kr_i fun r6 => ?_) kx_i
  refine J.pre fun e6 => ?_
  subst e6
  refine j_if_eq_b (pc := 9) (tgt := 22) hK dX0_thunder_9 (by decide) (fun c9 => ?_) (fun c9 => ?_)
  · refine j_bipush (pc := 22) (v := (-2)) hK dX0_thunder_22 (by decide) ?_
    exact j_iret (pc := 24) hK hQ (nle rfl) (nle rfl) dX0_thunder_24 (fun h w => ⟨_, rfl, (by unfold oThunder; first | exact (if_pos c9).symm | exact ((if_neg (fun z => z c9)).trans (if_pos c19)).symm), w⟩)
  · refine j_iload_n (pc := 12) hK dX0_thunder_12 rfl ?_
    refine j_i2l (pc := 13) hK dX0_thunder_13 ?_
    refine j_lconst (pc := 14) (v := 0) hK dX0_thunder_14 (by decide) ?_
    refine j_lconst (pc := 15) (v := 1) hK dX0_thunder_15 (by decide) ?_
    refine j_callS (pc := 16) hK hQ (c_Xin (l := 0) (u := 1) (by decide) (by decide)) cal_X0_in q106 dX0_thunder_16 rfl rfl (nle rfl) (nle rfl) (nle rfl) (nle rfl) (kr_i fun r16 => ?_) kx_i
    refine J.pre fun e16 => ?_
    subst e16
    refine j_if_ne_b (pc := 19) (tgt := 25) hK dX0_thunder_19 (by decide) (fun c19 => ?_) (fun c19 => ?_)
    · refine j_iload_n (pc := 25) hK dX0_thunder_25 rfl ?_
      refine j_iconst (pc := 26) (v := 1) hK dX0_thunder_26 (by decide) ?_
      refine j_icmp_ne (pc := 27) (tgt := 40) hK dX0_thunder_27 (by decide) (fun c27 => ?_) (fun c27 => ?_)
      · refine j_iconst (pc := 40) (v := 0) hK dX0_thunder_40 (by decide) ?_
        refine j_ist3 (pc := 41) hK dX0_thunder_41 (by decide) rfl ?_
        refine j_iconst (pc := 42) (v := 0) hK dX0_thunder_42 (by decide) ?_
        refine j_ist4 (pc := 43) hK dX0_thunder_43 (by decide) rfl ?_
        exact loop0 (by unfold oThunder; rw [if_neg (fun z => z c9), if_neg (fun z => z c19), if_pos (by have := c19.1; have := c19.2; clear hK hQ; grind)]) nb 0 (by omega)
      · refine j_aload_n (pc := 30) hK dX0_thunder_30 rfl ?_
        refine j_aload_n (pc := 31) hK dX0_thunder_31 rfl ?_
        refine j_callV (pc := 32) hK hQ (c_Xnobody hn e0 hV) cal_X0_nobody (xi_isC (fun _ w => w)) q951 dX0_thunder_32 rfl rfl (nle rfl) (nle rfl) (nle rfl) (nle rfl) (kr_i fun r32 => ?_) kx_i
        refine J.pre fun e32 => ?_
        subst e32
        refine j_iload_n (pc := 35) hK dX0_thunder_35 rfl ?_
        refine j_callV (pc := 36) hK hQ (c_XmostFetched hn e0 hV) cal_X0_mostFetched (xi_isC (fun _ w => w)) q952 dX0_thunder_36 rfl rfl (nle rfl) (nle rfl) (nle rfl) (nle rfl) (kr_i fun r36 => ?_) kx_i
        refine J.pre fun e36 => ?_
        subst e36
        exact j_iret (pc := 39) hK hQ (nle rfl) (nle rfl) dX0_thunder_39 (fun h w => ⟨_, rfl, (by unfold oThunder; rw [if_neg (fun z => z c9), if_neg (fun z => z c19), c27]; rfl), w⟩)
    · refine j_bipush (pc := 22) (v := (-2)) hK dX0_thunder_22 (by decide) ?_
      exact j_iret (pc := 24) hK hQ (nle rfl) (nle rfl) dX0_thunder_24 (fun h w => ⟨_, rfl, (by unfold oThunder; first | exact (if_pos c9).symm | exact ((if_neg (fun z => z c9)).trans (if_pos c19)).symm), w⟩)
end X65
