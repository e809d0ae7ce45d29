/-! fetch, launch, one, thunder -/
set_option maxRecDepth 100000
noncomputable def iteP {α : Type} (p : Prop) (a b : α) : α := @ite α p (Classical.propDecidable p) a b
theorem iteP_t {α : Type} {p : Prop} {a b : α} (h : p) : iteP p a b = a := @if_pos p (Classical.propDecidable p) h α a b
theorem iteP_f {α : Type} {p : Prop} {a b : α} (h : ¬ p) : iteP p a b = b := @if_neg p (Classical.propDecidable p) h α a b
section S11
variable (f : Nat → Int32) (g : Nat → Int32 → Int32) (T : TX)
def LK (nb : Nat) (x : Int32) : Prop := ∃ s : Nat, x = nI s ∧ s < 2 ^ nb ∧ lakeS g s nb
noncomputable def oFetch (nb : Nat) (x what : Int32) : Int32 := iteP (¬ LK g nb x) (-2) (if ¬ (0 ≤ what ∧ what ≤ 7) then -2 else if what = 0 then (fetI f g nb x.toNatClampNeg).1 else if nI (pc7 x.toNatClampNeg) < what then -1 else nI ((fetI f g nb x.toNatClampNeg).2.getD (what.toNatClampNeg - 1) 0))
def lauL (s : Nat) : Nat → Nat → (Nat → Int32) → (Nat → Int32 → Int32) → (Nat → Int32) × (Nat → Int32 → Int32)
  | 0, _, f, g => (f, g)
  | r + 1, i, f, g => if s / 2 ^ i % 2 = 1 then lauL s r (i + 1) (comeF f g T (nI i) (f 10)) (comeG g (nI i) (f 10)) else lauL s r (i + 1) f g
noncomputable def oLaunch (nb : Nat) (x : Int32) : R3 := iteP (¬ LK g nb x) (-2, f, g) ((fetI f g nb x.toNatClampNeg).1, lauL T x.toNatClampNeg nb 0 (oPass f g T nb (fetI f g nb x.toNatClampNeg).1).2.1 (oPass f g T nb (fetI f g nb x.toNatClampNeg).1).2.2)
def oneL (nb : Nat) : Nat → Nat → Int32 → Int32 → Int32 × Int32
  | 0, _, best, least => (best, least)
  | r + 1, i, best, least => if ¬ g 6 (nI i) = 0 then oneL nb r (i + 1) best least else if ¬ best < 0 ∧ ¬ (fetI f g nb (2 ^ i)).1 < least then oneL nb r (i + 1) best least else oneL nb r (i + 1) (nI i) (fetI f g nb (2 ^ i)).1
def oOne (nb : Nat) (what : Int32) : Int32 := if ¬ (0 ≤ what ∧ what ≤ 1) then -2 else if what = 0 then (oneL f g nb nb 0 (-1) 0).1 else (oneL f g nb nb 0 (-1) 0).2
def thS (n : Int32) : Nat → Int32
  | 0 => 0
  | i + 1 => if g 6 (nI i) = 2 ∨ (¬ wbiI f g T (nI i) < 0 ∧ wbiI f g T (nI i) ≤ f 10 + n) then thS n i ||| (1 <<< (nI i &&& 31)) else thS n i
/-- the most of the sets 1 .. k that can be fetched in n minutes -/
def mxI (nb : Nat) (n : Int32) : Nat → Nat
  | 0 => 0
  | k + 1 => if nI (k + 1) &&& (nobS f g T nb ^^^ (-1)) = 0 ∧ mxI nb n k < pc7 (k + 1) ∧ (fetI f g nb (k + 1)).1 ≤ n then pc7 (k + 1) else mxI nb n k
def oThunder (nb : Nat) (n what : Int32) : Int32 := if ¬ (0 ≤ n ∧ n ≤ 240) then -2 else if ¬ (0 ≤ what ∧ what ≤ 1) then -2 else if what = 0 then thS f g T n nb else nI (mxI f g T nb n (2 ^ nb - 1))
end S11
section P11
variable {f : Nat → Int32} {g : Nat → Int32 → Int32} {T : TX}
theorem pow_128 {nb : Nat} (hn : nb ≤ 7) : 2 ^ nb ≤ 128 ∧ 1 ≤ 2 ^ nb := by
  have : nb = 0 ∨ nb = 1 ∨ nb = 2 ∨ nb = 3 ∨ nb = 4 ∨ nb = 5 ∨ nb = 6 ∨ nb = 7 := by omega
  rcases this with rfl | rfl | rfl | rfl | rfl | rfl | rfl | rfl <;> decide
/-- the best order's length -/
def gdA (N : Nat) (acc : Acc) : Prop := acc.1 < 0 ∨ acc.2.length = N
theorem leaf_len {N : Nat} {t : Int32} {os : List Nat} {acc : Acc} (h : gdA N acc) (ho : os.length = N) : (leafI t os acc).2.length = N := by
  unfold leafI
  split
  · rename_i z
    rcases h with h | h
    · exact absurd z.1 (Int32.not_le.mpr h)
    · exact h
  · exact ho
theorem en_gd {nb N : Nat} : ∀ (n s : Nat) (pre : List Nat) (acc : Acc), pre.length + n = N → gdA N acc → gdA N (enI f g nb n s pre acc) ∧ (acc.2.length = N → (enI f g nb n s pre acc).2.length = N) ∧ (pc7 s = n → s < 2 ^ nb → nb ≤ 7 → (enI f g nb n s pre acc).2.length = N) := by
  intro n
  induction n with
  | zero =>
    intro s pre acc hp hg
    have := leaf_len (t := tmI f g 0 0 0 pre) hg hp
    exact ⟨Or.inr this, fun _ => this, fun _ _ _ => this⟩
  | succ n ih =>
    intro s pre acc hp hg
    have key : ∀ k, gdA N ((List.range k).foldl (fun acc i => if s / 2 ^ i % 2 = 1 then enI f g nb n (s - 2 ^ i) (pre ++ [i]) acc else acc) acc) ∧ (acc.2.length = N → ((List.range k).foldl (fun acc i => if s / 2 ^ i % 2 = 1 then enI f g nb n (s - 2 ^ i) (pre ++ [i]) acc else acc) acc).2.length = N) ∧ (pc7 s = n + 1 → s < 2 ^ nb → nb ≤ 7 → (∃ i, i < k ∧ s / 2 ^ i % 2 = 1 ∧ i < nb) → ((List.range k).foldl (fun acc i => if s / 2 ^ i % 2 = 1 then enI f g nb n (s - 2 ^ i) (pre ++ [i]) acc else acc) acc).2.length = N) := by
      intro k
      induction k with
      | zero => exact ⟨hg, fun h => h, fun _ _ _ ⟨i, hi, _⟩ => by omega⟩
      | succ k ihk =>
        obtain ⟨k1, k2, k3⟩ := ihk
        rw [rng_s]
        by_cases hb : s / 2 ^ k % 2 = 1
        · rw [if_pos hb]
          obtain ⟨i1, i2, i3⟩ := ih (s - 2 ^ k) (pre ++ [k]) _ (by simp; omega) k1
          refine ⟨i1, fun h => i2 (k2 h), fun a b c ⟨i, hi, hbi, hin⟩ => ?_⟩
          by_cases hik : i < k
          · exact i2 (k3 a b c ⟨i, hik, hbi, hin⟩)
          · have : i = k := by omega
            subst this
            have h128 := pow_128 c
            obtain ⟨-, ep, ele⟩ := clr_s s (by omega) i (by omega) hb
            exact i3 (by omega) (Nat.lt_of_le_of_lt (Nat.sub_le _ _) b) c
        · rw [if_neg hb]
          refine ⟨k1, k2, fun a b c ⟨i, hi, hbi, hin⟩ => k3 a b c ⟨i, ?_, hbi, hin⟩⟩
          rcases Nat.lt_or_ge i k with q | q
          · exact q
          · have : i = k := by omega
            subst this
            exact absurd hbi hb
    obtain ⟨k1, k2, k3⟩ := key nb
    refine ⟨k1, k2, fun a b c => k3 a b c ?_⟩
    have h128 := pow_128 c
    have hne : ¬ s = 0 := fun z => by subst z; cases a
    have : ∀ s, s < 128 → ¬ s = 0 → ∀ nb, nb ≤ 7 → s < 2 ^ nb → ∃ i, i < nb ∧ s / 2 ^ i % 2 = 1 ∧ i < nb := by
      intro s h1 h2 nb h3 h4
      have h5 : ∀ s, s < 128 → ¬ s = 0 → ∃ i, i < 7 ∧ s / 2 ^ i % 2 = 1 ∧ 2 ^ i ≤ s := by decide +kernel
      obtain ⟨i, i1, i2, i3⟩ := h5 s h1 h2
      have : i < nb := by
        rcases Nat.lt_or_ge i nb with q | q
        · exact q
        · have := Nat.pow_le_pow_right (n := 2) (by decide) q
          omega
      exact ⟨i, this, i2, this⟩
    exact this s (by omega) hne nb c b
theorem fet_len {nb s : Nat} (hn : nb ≤ 7) (hs : s < 2 ^ nb) : (fetI f g nb s).2.length = pc7 s := (en_gd (pc7 s) s [] (-1, []) (by simp) (Or.inl (by decide))).2.2 rfl hs hn
theorem come_k {b a : Int32} {k : Nat} (h1 : k ≠ 13) (h2 : k ≠ 14) : comeF f g T b a k = f k := by
  unfold comeF upd
  rw [if_neg h1, if_neg h2]
theorem passL_k {k : Nat} (h1 : k ≠ 13) (h2 : k ≠ 14) : ∀ (r i : Nat) (f : Nat → Int32) (g : Nat → Int32 → Int32) (m : Int32), (passL T r i f g m).2.1 k = f k := by
  intro r
  induction r with
  | zero => intros; rfl
  | succ r ih =>
    intro i f g m
    unfold passL
    split
    · rw [ih, come_k h1 h2]
    · rw [ih]
theorem oPass_k {nb k : Nat} {n : Int32} (h0 : k ≠ 10) (h1 : k ≠ 13) (h2 : k ≠ 14) : (oPass f g T nb n).2.1 k = f k := by
  unfold oPass
  rw [passL_k h1 h2]
  exact if_neg h0
theorem oPass_ok {nb : Nat} {n : Int32} (ho : OkR f T) : OkR (oPass f g T nb n).2.1 T := by
  unfold OkR InvT
  rw [oPass_k (by decide) (by decide) (by decide), oPass_k (by decide) (by decide) (by decide)]
  exact ho
theorem lauL_n {s r i : Nat} (h : ¬ s / 2 ^ i % 2 = 1) : lauL T s (r + 1) i f g = lauL T s r (i + 1) f g := if_neg h
theorem lauL_p {s r i : Nat} (h : s / 2 ^ i % 2 = 1) : lauL T s (r + 1) i f g = lauL T s r (i + 1) (comeF f g T (nI i) (f 10)) (comeG g (nI i) (f 10)) := if_pos h
theorem oneL_a {nb r i : Nat} {b l : Int32} (h : ¬ g 6 (nI i) = 0) : oneL f g nb (r + 1) i b l = oneL f g nb r (i + 1) b l := if_pos h
theorem oneL_b {nb r i : Nat} {b l : Int32} (h : g 6 (nI i) = 0) (h1 : ¬ b < 0) (h2 : ¬ (fetI f g nb (2 ^ i)).1 < l) : oneL f g nb (r + 1) i b l = oneL f g nb r (i + 1) b l := by
  conv => lhs; unfold oneL
  rw [if_neg (fun z => z h), if_pos ⟨h1, h2⟩]
theorem oneL_c {nb r i : Nat} {b l : Int32} (h : g 6 (nI i) = 0) (h1 : b < 0 ∨ (fetI f g nb (2 ^ i)).1 < l) : oneL f g nb (r + 1) i b l = oneL f g nb r (i + 1) (nI i) (fetI f g nb (2 ^ i)).1 := by
  conv => lhs; unfold oneL
  rw [if_neg (fun z => z h), if_neg (fun z => by rcases h1 with q | q; exact z.1 q; exact z.2 q)]
theorem thS_a {n : Int32} {i : Nat} (h : g 6 (nI i) = 2) : thS f g T n (i + 1) = thS f g T n i ||| (1 <<< (nI i &&& 31)) := if_pos (Or.inl h)
theorem thS_b {n : Int32} {i : Nat} (h1 : ¬ wbiI f g T (nI i) < 0) (h2 : ¬ f 10 + n < wbiI f g T (nI i)) : thS f g T n (i + 1) = thS f g T n i ||| (1 <<< (nI i &&& 31)) := if_pos (Or.inr ⟨h1, Int32.not_lt.mp h2⟩)
theorem thS_c {n : Int32} {i : Nat} (h : ¬ g 6 (nI i) = 2) (h1 : wbiI f g T (nI i) < 0) : thS f g T n (i + 1) = thS f g T n i := if_neg (fun z => by rcases z with q | q; exact h q; exact q.1 h1)
theorem thS_d {n : Int32} {i : Nat} (h : ¬ g 6 (nI i) = 2) (h1 : f 10 + n < wbiI f g T (nI i)) : thS f g T n (i + 1) = thS f g T n i := if_neg (fun z => by rcases z with q | q; exact h q; exact Int32.not_le.mpr h1 q.2)
theorem mx_a {nb k : Nat} {n : Int32} (h : ¬ nI (k + 1) &&& (nobS f g T nb ^^^ (-1)) = 0) : mxI f g T nb n (k + 1) = mxI f g T nb n k := if_neg (fun z => h z.1)
theorem mx_b {nb k : Nat} {n : Int32} (h : ¬ mxI f g T nb n k < pc7 (k + 1)) : mxI f g T nb n (k + 1) = mxI f g T nb n k := if_neg (fun z => h z.2.1)
theorem mx_c {nb k : Nat} {n : Int32} (h : n < (fetI f g nb (k + 1)).1) : mxI f g T nb n (k + 1) = mxI f g T nb n k := if_neg (fun z => Int32.not_le.mpr h z.2.2)
theorem mx_d {nb k : Nat} {n : Int32} (h : nI (k + 1) &&& (nobS f g T nb ^^^ (-1)) = 0) (h2 : mxI f g T nb n k < pc7 (k + 1)) (h3 : ¬ n < (fetI f g nb (k + 1)).1) : mxI f g T nb n (k + 1) = pc7 (k + 1) := if_pos ⟨h, h2, Int32.not_lt.mp h3⟩
theorem mx_7 {nb : Nat} {n : Int32} : ∀ k, mxI f g T nb n k ≤ 7 := by
  intro k
  induction k with
  | zero => exact Nat.zero_le _
  | succ k ih =>
    unfold mxI
    split
    · unfold pc7; omega
    · exact ih
end P11
section Y11
variable {Γ : Gam} {A : Nat → Prop} {L : Nat → Nat} {f : Nat → Int32} {g : Nat → Int32 → Int32} {T : TX} {P : PH → Prop} {acc : Acc} {pre : List Nat}
theorem yg_yi {h : PH} (w : YG Γ L f g T acc pre h) : YI Γ L f g T h := by
  obtain ⟨f', g', w, e, t, -⟩ := w
  exact ⟨f', g', w, e, t⟩
theorem c_Yfetch (x what : Int32) {nb : Nat} (hn : nb ≤ 7) (e0 : f 0 = nI nb) (h11 : ¬ (0 : Int32) = f 11) : Ct Γ A yX8_fetch wX8_fetch 21 0 0 [.ref (L 40), .int x, .int what] (YI Γ L f g T) (RI fun r h => r = oFetch f g nb x what ∧ YI Γ L f g T h) := by
  refine Ct.of (cc := cX8_fetch) (nL := 4) (ret := (some .int)) (ls := [some (.ref (L 40)), some (.int x), some (.int what), none]) rfl rfl rfl (nle rfl) ?_
  intro K hK hQ
  refine j_aload_n (pc := 0) hK dX8_fetch_0 rfl ?_
  refine j_iload_n (pc := 1) hK dX8_fetch_1 rfl ?_
  refine j_callV (pc := 2) hK hQ (c_YonTheLake _ hn e0) cal_X8_onTheLake yi_isC q1454 dX8_fetch_2 rfl rfl (nle rfl) (nle rfl) (nle rfl) (nle rfl) (kr_i fun r2 => ?_) kx_i
  refine J.pre fun e2a => J.pre fun e2 => ?_
  refine j_if_eq (pc := 5) (tgt := 18) hK dX8_fetch_5 (by decide) (fun c5 => ?_) (fun c5 => ?_)
  · have hz : oFetch f g nb x what = -2 := by
      unfold oFetch
      first
        | exact iteP_t (fun z => by have := e2.mpr z; rw [c5] at this; exact absurd this (by decide))
        | (rw [if_pos c15]; unfold iteP; split <;> rfl)
    refine j_bipush (pc := 18) (v := (-2)) hK dX8_fetch_18 (by decide) ?_
    exact j_iret (pc := 20) hK hQ (nle rfl) (nle rfl) dX8_fetch_20 (fun h w => ⟨_, rfl, hz.symm, w⟩)
  · refine j_iload_n (pc := 8) hK dX8_fetch_8 rfl ?_
    refine j_iconst (pc := 9) (v := 0) hK dX8_fetch_9 (by decide) ?_
    refine j_bipush (pc := 10) (v := 7) hK dX8_fetch_10 (by decide) ?_
    refine j_callS (pc := 12) hK hQ (c_Ywithin _ _ _) cal_X8_within q1167 dX8_fetch_12 rfl rfl (nle rfl) (nle rfl) (nle rfl) (nle rfl) (kr_i fun r12 => ?_) kx_i
    refine J.pre fun e12 => ?_
    subst e12
    refine j_if_ne_b (pc := 15) (tgt := 21) hK dX8_fetch_15 (by decide) (fun c15 => ?_) (fun c15 => ?_)
    · have hr1 : r2 = 1 := by rcases e2a with q | q; exact absurd q c5; exact q
      obtain ⟨s, es, hs, hlk⟩ := e2.mp hr1
      have h128 := pow_128 hn
      have ecl : x.toNatClampNeg = s := by rw [es]; exact nI_clamp (by omega)
      have hof : oFetch f g nb x what = if what = 0 then (fetI f g nb s).1 else if nI (pc7 s) < what then -1 else nI ((fetI f g nb s).2.getD (what.toNatClampNeg - 1) 0) := by
        unfold oFetch
        rw [iteP_f (fun z => z ⟨s, es, hs, hlk⟩), if_neg (fun z => z c15), ecl]
      rw [es]
      refine j_aload_n (pc := 21) hK dX8_fetch_21 rfl ?_
      refine j_iload_n (pc := 22) hK dX8_fetch_22 rfl ?_
      refine j_callV (pc := 23) hK hQ (c_Yfetches hn e0 h11 (show s < 128 by omega)) cal_X8_fetches yi_isC q1458 dX8_fetch_23 rfl rfl (nle rfl) (nle rfl) (nle rfl) (nle rfl) (kr_i fun r23 => ?_) kx_i
      refine J.pre fun e23 => ?_
      subst e23
      refine j_ist3 (pc := 26) hK dX8_fetch_26 (by decide) rfl ?_
      refine j_iload_n (pc := 27) hK dX8_fetch_27 rfl ?_
      refine j_if_ne (pc := 28) (tgt := 35) hK dX8_fetch_28 (by decide) (fun c28 => ?_) (fun c28 => ?_)
      · refine j_iload_n (pc := 35) hK dX8_fetch_35 rfl ?_
        refine j_iload_n (pc := 36) hK dX8_fetch_36 rfl ?_
        refine j_callS (pc := 37) hK hQ (c_bitCount _) cal_J9_bitCount q1466 dX8_fetch_37 rfl rfl (nle rfl) (nle rfl) (nle rfl) (nle rfl) (kr_i fun r37 => ?_) kx_i
        refine J.pre fun e37 => ?_
        subst e37
        rw [bc_pc s (by omega)]
        refine j_icmp_le (pc := 40) (tgt := 47) hK dX8_fetch_40 (by decide) (fun c40 => ?_) (fun c40 => ?_)
        · have hw : ∃ w : Nat, w < pc7 s ∧ what = nI (w + 1) := by
            obtain ⟨w0, hw0, ew⟩ := nI_of2 (x := what) (M := 7) (n := 7) (by decide) (Int32.not_lt.mpr c15.1) c15.2
            have h7 : pc7 s ≤ 7 := by unfold pc7; omega
            rw [ew] at c28 c40
            have h1 := (nI_leI (by omega) (by omega)).mp c40
            rcases Nat.eq_zero_or_pos w0 with z | z
            · subst z; exact absurd (by decide) c28
            · exact ⟨w0 - 1, by omega, by rw [show w0 - 1 + 1 = w0 by omega]; exact ew⟩
          obtain ⟨w0, hw0, ew⟩ := hw
          refine yg_open fun f2 g2 he ht ha hb hc => ?_
          have hlen := fet_len (f := f) (g := g) hn hs
          have hp7 : pc7 s ≤ 7 := by unfold pc7; omega
          have hget : (fetI f g nb s).2[w0]? = some ((fetI f g nb s).2.getD w0 0) := by
            rw [List.getD_eq_getElem?_getD]
            rw [List.getElem?_eq_getElem (by omega)]
            rfl
          have hv := hb _ _ hget
          refine j_aload_n (pc := 47) hK dX8_fetch_47 rfl ?_
          refine y_getR (pc := 48) (k := 31) hK (by decide) rfl q1271 rfl dX8_fetch_48 ?_
          refine j_iload_n (pc := 51) hK dX8_fetch_51 rfl ?_
          refine j_iconst (pc := 52) (v := 1) hK dX8_fetch_52 (by decide) ?_
          refine j_isub (pc := 53) hK dX8_fetch_53 ?_
          refine y_ald (pc := 54) (k := 31) hK rfl (by rw [ew, nI_pred]; exact vp_in_nI (show w0 < 7 by omega) (by decide)) dX8_fetch_54 ?_
          rw [ew, nI_pred, hv]
          exact j_iret (pc := 55) hK hQ (nle rfl) (nle rfl) dX8_fetch_55 (fun h w => ⟨_, rfl, by rw [hof, if_neg c28, if_neg (Int32.not_lt.mpr c40), ew, nI_clamp (by omega)]; rfl, _, _, w, he, ht⟩)
        · refine j_iconst (pc := 43) (v := (-1)) hK dX8_fetch_43 (by decide) ?_
          refine j_goto (pc := 44) (tgt := 55) hK dX8_fetch_44 (by decide) ?_
          exact j_iret (pc := 55) hK hQ (nle rfl) (nle rfl) dX8_fetch_55 (fun h w => ⟨_, rfl, by first | rw [hof, if_pos c28] | rw [hof, if_neg c28, if_pos (Int32.not_le.mp c40)] | (rw [hof, if_neg c28, if_neg (Int32.not_lt.mpr c40), ew, nI_clamp (by omega)]; rw [ew, nI_pred]; exact hv), by first | exact yg_yi w | exact ⟨_, _, w, he, ht⟩⟩)
      · refine j_iload_n (pc := 31) hK dX8_fetch_31 rfl ?_
        refine j_goto (pc := 32) (tgt := 55) hK dX8_fetch_32 (by decide) ?_
        exact j_iret (pc := 55) hK hQ (nle rfl) (nle rfl) dX8_fetch_55 (fun h w => ⟨_, rfl, by first | rw [hof, if_pos c28] | rw [hof, if_neg c28, if_pos (Int32.not_le.mp c40)] | (rw [hof, if_neg c28, if_neg (Int32.not_lt.mpr c40), ew, nI_clamp (by omega)]; rw [ew, nI_pred]; exact hv), by first | exact yg_yi w | exact ⟨_, _, w, he, ht⟩⟩)
    · have hz : oFetch f g nb x what = -2 := by
        unfold oFetch
        first
          | exact iteP_t (fun z => by have := e2.mpr z; rw [c5] at this; exact absurd this (by decide))
          | (rw [if_pos c15]; unfold iteP; split <;> rfl)
      refine j_bipush (pc := 18) (v := (-2)) hK dX8_fetch_18 (by decide) ?_
      exact j_iret (pc := 20) hK hQ (nle rfl) (nle rfl) dX8_fetch_20 (fun h w => ⟨_, rfl, hz.symm, w⟩)
theorem c_Ylaunch (x : Int32) {nb : Nat} (hn : nb ≤ 7) (e0 : f 0 = nI nb) (h11 : ¬ (0 : Int32) = f 11) (ho : OkR f T) : Ct Γ A yX8_launch wX8_launch 21 0 0 [.ref (L 40), .int x] (YI Γ L f g T) (RI (YO Γ L T (oLaunch f g T nb x))) := by
  refine Ct.of (cc := cX8_launch) (nL := 4) (ret := (some .int)) (ls := [some (.ref (L 40)), some (.int x), none, none]) rfl rfl rfl (nle rfl) ?_
  intro K hK hQ
  have loop : ∀ (s : Nat) (t : Int32), s < 128 → x = nI s → ∀ (r i : Nat) (f1 : Nat → Int32) (g1 : Nat → Int32 → Int32), i + r = nb → f1 0 = nI nb → OkR f1 T → oLaunch f g T nb x = (t, lauL T s r i f1 g1) → J Γ A K 25 [some (.ref (L 40)), some (.int x), some (.int t), some (.int (nI i))] [] (YI Γ L f1 g1 T) 0 0 := by
    intro s t hs ex r
    induction r with
    | zero =>
      intro i f1 g1 hi e1 ho hq
      refine j_iload_n (pc := 25) hK dX8_launch_25 rfl ?_
      refine j_aload_n (pc := 26) hK dX8_launch_26 rfl ?_
      refine yi_getI (pc := 27) (k := 0) hK (by decide) rfl rfl q1240 rfl dX8_launch_27 ?_
      refine j_icmp_ge (pc := 30) (tgt := 57) hK dX8_launch_30 (by decide) (fun c30 => ?_) (fun c30 => absurd (by rw [e1]; exact nI_le (by omega) (by omega)) c30)
      refine j_iload_n (pc := 57) hK dX8_launch_57 rfl ?_
      exact j_iret (pc := 58) hK hQ (nle rfl) (nle rfl) dX8_launch_58 (fun h w => ⟨_, rfl, _, _, hq, w⟩)
    | succ r ih =>
      intro i f1 g1 hi e1 ho hq
      have hb : vp_in (nI i) 7 := vp_in_nI (by omega) (by decide)
      have ebit : (x >>> (nI i &&& 31)) &&& 1 = nI (s / 2 ^ i % 2) := by rw [ex]; exact bit_s s hs i (by omega)
      have hlt : s / 2 ^ i % 2 < 2 := Nat.mod_lt _ (by decide)
      refine j_iload_n (pc := 25) hK dX8_launch_25 rfl ?_
      refine j_aload_n (pc := 26) hK dX8_launch_26 rfl ?_
      refine yi_getI (pc := 27) (k := 0) hK (by decide) rfl rfl q1240 rfl dX8_launch_27 ?_
      refine j_icmp_ge (pc := 30) (tgt := 57) hK dX8_launch_30 (by decide) (fun c30 => absurd c30 (by rw [e1]; exact nI_ge (by omega) (by omega))) (fun c30 => ?_)
      refine j_iload_n (pc := 33) hK dX8_launch_33 rfl ?_
      refine j_iload_n (pc := 34) hK dX8_launch_34 rfl ?_
      refine j_ishr (pc := 35) hK dX8_launch_35 ?_
      refine j_iconst (pc := 36) (v := 1) hK dX8_launch_36 (by decide) ?_
      refine j_iand (pc := 37) hK dX8_launch_37 ?_
      rw [ebit]
      refine j_iconst (pc := 38) (v := 1) hK dX8_launch_38 (by decide) ?_
      refine j_icmp_ne (pc := 39) (tgt := 51) hK dX8_launch_39 (by decide) (fun c39 => ?_) (fun c39 => ?_)
      · refine j_iinc3 (pc := 51) (v := 1) hK dX8_launch_51 (by decide) rfl (by decide) ?_
        refine j_goto (pc := 54) (tgt := 25) hK dX8_launch_54 (by decide) ?_
        rw [nI_1]
        first
          | exact ih (i + 1) _ _ (by omega) e1 ho (by rw [hq, lauL_n (fun z => c39 (by rw [z]; decide))])
          | exact ih (i + 1) _ _ (by omega) ((come_k (by decide) (by decide)).trans e1) ho.come (by rw [hq, lauL_p ((nI_eq (by omega) (by decide)).mp (c39.trans (show (1 : Int32) = nI 1 by decide)))])
      · refine j_aload_n (pc := 42) hK dX8_launch_42 rfl ?_
        refine j_iload_n (pc := 43) hK dX8_launch_43 rfl ?_
        refine j_aload_n (pc := 44) hK dX8_launch_44 rfl ?_
        refine yi_getI (pc := 45) (k := 10) hK (by decide) rfl rfl q1250 rfl dX8_launch_45 ?_
        refine j_callV (pc := 48) hK hQ (c_YcomesIn _ _ hb ho) cal_X8_comesIn yi_isC q1430 dX8_launch_48 rfl rfl (nle rfl) (nle rfl) (nle rfl) (nle rfl) (kr_v ?_) kx_v
        refine j_iinc3 (pc := 51) (v := 1) hK dX8_launch_51 (by decide) rfl (by decide) ?_
        refine j_goto (pc := 54) (tgt := 25) hK dX8_launch_54 (by decide) ?_
        rw [nI_1]
        first
          | exact ih (i + 1) _ _ (by omega) e1 ho (by rw [hq, lauL_n (fun z => c39 (by rw [z]; decide))])
          | exact ih (i + 1) _ _ (by omega) ((come_k (by decide) (by decide)).trans e1) ho.come (by rw [hq, lauL_p ((nI_eq (by omega) (by decide)).mp (c39.trans (show (1 : Int32) = nI 1 by decide)))])
  refine j_aload_n (pc := 0) hK dX8_launch_0 rfl ?_
  refine j_iload_n (pc := 1) hK dX8_launch_1 rfl ?_
  refine j_callV (pc := 2) hK hQ (c_YonTheLake _ hn e0) cal_X8_onTheLake yi_isC q1454 dX8_launch_2 rfl rfl (nle rfl) (nle rfl) (nle rfl) (nle rfl) (kr_i fun r2 => ?_) kx_i
  refine J.pre fun e2a => J.pre fun e2 => ?_
  refine j_if_ne (pc := 5) (tgt := 11) hK dX8_launch_5 (by decide) (fun c5 => ?_) (fun c5 => ?_)
  · have hr1 : r2 = 1 := by rcases e2a with q | q; exact absurd q c5; exact q
    obtain ⟨s, es, hs, hlk⟩ := e2.mp hr1
    have h128 := pow_128 hn
    have ecl : x.toNatClampNeg = s := by rw [es]; exact nI_clamp (by omega)
    have hof : oLaunch f g T nb x = ((fetI f g nb s).1, lauL T s nb 0 (oPass f g T nb (fetI f g nb s).1).2.1 (oPass f g T nb (fetI f g nb s).1).2.2) := by
      unfold oLaunch
      rw [iteP_f (fun z => z ⟨s, es, hs, hlk⟩), ecl]
    refine j_aload_n (pc := 11) hK dX8_launch_11 rfl ?_
    refine j_iload_n (pc := 12) hK dX8_launch_12 rfl ?_
    rw [show (Value.int x) = .int (nI s) by rw [es]]
    refine j_callV (pc := 13) hK hQ (c_Yfetches hn e0 h11 (show s < 128 by omega)) cal_X8_fetches yi_isC q1458 dX8_launch_13 rfl rfl (nle rfl) (nle rfl) (nle rfl) (nle rfl) (kr_i fun r13 => ?_) kx_i
    refine J.pre fun e13 => ?_
    subst e13
    refine J.mono (P' := YI Γ L f g T) (fun h w => yg_yi w) ?_
    refine j_ist2 (pc := 16) hK dX8_launch_16 (by decide) rfl ?_
    refine j_aload_n (pc := 17) hK dX8_launch_17 rfl ?_
    refine j_iload_n (pc := 18) hK dX8_launch_18 rfl ?_
    refine j_callV (pc := 19) hK hQ (c_Ypasses _ hn e0 ho) cal_X8_passes yi_isC q1426 dX8_launch_19 rfl rfl (nle rfl) (nle rfl) (nle rfl) (nle rfl) (kr_i fun r19 => ?_) kx_i
    refine J.ex fun f2 => J.ex fun g2 => J.pre fun e19 => ?_
    refine j_pop (pc := 22) hK dX8_launch_22 rfl ?_
    refine j_iconst (pc := 23) (v := 0) hK dX8_launch_23 (by decide) ?_
    refine j_ist3 (pc := 24) hK dX8_launch_24 (by decide) rfl ?_
    have ef : f2 = (oPass f g T nb (fetI f g nb s).1).2.1 := by rw [e19]
    have eg : g2 = (oPass f g T nb (fetI f g nb s).1).2.2 := by rw [e19]
    rw [← es]
    exact loop s _ (by omega) es nb 0 f2 g2 (by omega) (by rw [ef, oPass_k (by decide) (by decide) (by decide)]; exact e0) (by rw [ef]; exact oPass_ok ho) (by rw [hof, ef, eg])
  · refine j_bipush (pc := 8) (v := (-2)) hK dX8_launch_8 (by decide) ?_
    exact j_iret (pc := 10) hK hQ (nle rfl) (nle rfl) dX8_launch_10 (fun h w => ⟨_, rfl, _, _, by unfold oLaunch; exact iteP_t (fun z => by have := e2.mpr z; rw [c5] at this; exact absurd this (by decide)), w⟩)
theorem c_Yone (what : Int32) {nb : Nat} (hn : nb ≤ 7) (e0 : f 0 = nI nb) (h11 : ¬ (0 : Int32) = f 11) : Ct Γ A yX8_one_2 wX8_one_2 21 0 0 [.ref (L 40), .int what] (YI Γ L f g T) (RI fun r h => r = oOne f g nb what ∧ YI Γ L f g T h) := by
  refine Ct.of (cc := cX8_one_2) (nL := 6) (ret := (some .int)) (ls := [some (.ref (L 40)), some (.int what), none, none, none, none]) rfl rfl rfl (nle rfl) ?_
  intro K hK hQ
  have loop : oOne f g nb what = (if what = 0 then (oneL f g nb nb 0 (-1) 0).1 else (oneL f g nb nb 0 (-1) 0).2) → ∀ (r i : Nat) (b l : Int32), i + r = nb → oneL f g nb r i b l = oneL f g nb nb 0 (-1) 0 → J Γ A K 19 [some (.ref (L 40)), some (.int what), some (.int b), some (.int l), some (.int (nI i)), none] [] (YI Γ L f g T) 0 0 := by
    intro hq r
    induction r with
    | zero =>
      intro i b l hi hp
      refine j_iload (pc := 19) hK dX8_one_2_19 rfl ?_
      refine j_aload_n (pc := 21) hK dX8_one_2_21 rfl ?_
      refine yi_getI (pc := 22) (k := 0) hK (by decide) rfl rfl q1240 rfl dX8_one_2_22 ?_
      refine j_icmp_ge (pc := 25) (tgt := 76) hK dX8_one_2_25 (by decide) (fun c25 => ?_) (fun c25 => absurd (by rw [e0]; exact nI_le (by omega) (by omega)) c25)
      refine j_iload_n (pc := 76) hK dX8_one_2_76 rfl ?_
      refine j_if_ne (pc := 77) (tgt := 84) hK dX8_one_2_77 (by decide) (fun c77 => ?_) (fun c77 => ?_)
      · refine j_iload_n (pc := 84) hK dX8_one_2_84 rfl ?_
        exact j_iret (pc := 85) hK hQ (nle rfl) (nle rfl) dX8_one_2_85 (fun h w => ⟨_, rfl, by rw [hq, ← hp]; first | rw [if_pos c77]; rfl | rw [if_neg c77]; rfl, w⟩)
      · refine j_iload_n (pc := 80) hK dX8_one_2_80 rfl ?_
        refine j_goto (pc := 81) (tgt := 85) hK dX8_one_2_81 (by decide) ?_
        exact j_iret (pc := 85) hK hQ (nle rfl) (nle rfl) dX8_one_2_85 (fun h w => ⟨_, rfl, by rw [hq, ← hp]; first | rw [if_pos c77]; rfl | rw [if_neg c77]; rfl, w⟩)
    | succ r ih =>
      intro i b l hi hp
      have hb : vp_in (nI i) 7 := vp_in_nI (by omega) (by decide)
      have h128 := pow_128 hn
      have h2i : 2 ^ i < 128 := by
        have := Nat.pow_lt_pow_right (a := 2) (by decide) (show i < nb by omega)
        omega
      refine j_iload (pc := 19) hK dX8_one_2_19 rfl ?_
      refine j_aload_n (pc := 21) hK dX8_one_2_21 rfl ?_
      refine yi_getI (pc := 22) (k := 0) hK (by decide) rfl rfl q1240 rfl dX8_one_2_22 ?_
      refine j_icmp_ge (pc := 25) (tgt := 76) hK dX8_one_2_25 (by decide) (fun c25 => absurd c25 (by rw [e0]; exact nI_ge (by omega) (by omega))) (fun c25 => ?_)
      refine j_aload_n (pc := 28) hK dX8_one_2_28 rfl ?_
      refine yi_getR (pc := 29) (k := 6) hK (by decide) rfl q1246 rfl dX8_one_2_29 ?_
      refine j_iload (pc := 32) hK dX8_one_2_32 rfl ?_
      refine yi_ald (pc := 34) (k := 6) hK rfl rfl (by first | assumption | exact vp_in_c (by decide)) dX8_one_2_34 ?_
      refine j_if_eq (pc := 35) (tgt := 41) hK dX8_one_2_35 (by decide) (fun c35 => ?_) (fun c35 => ?_)
      · refine j_aload_n (pc := 41) hK dX8_one_2_41 rfl ?_
        refine j_iconst (pc := 42) (v := 1) hK dX8_one_2_42 (by decide) ?_
        refine j_iload (pc := 43) hK dX8_one_2_43 rfl ?_
        refine j_ishl (pc := 45) hK dX8_one_2_45 ?_
        rw [shl_i i (by omega)]
        refine j_callV (pc := 46) hK hQ (c_Yfetches hn e0 h11 h2i) cal_X8_fetches yi_isC q1458 dX8_one_2_46 rfl rfl (nle rfl) (nle rfl) (nle rfl) (nle rfl) (kr_i fun r46 => ?_) kx_i
        refine J.pre fun e46 => ?_
        subst e46
        refine J.mono (P' := YI Γ L f g T) (fun h w => yg_yi w) ?_
        refine j_ist5 (pc := 49) hK dX8_one_2_49 (by decide) rfl ?_
        refine j_iload_n (pc := 51) hK dX8_one_2_51 rfl ?_
        refine j_if_lt (pc := 52) (tgt := 64) hK dX8_one_2_52 (by decide) (fun c52 => ?_) (fun c52 => ?_)
        · refine j_iload (pc := 64) hK dX8_one_2_64 rfl ?_
          refine j_ist2 (pc := 66) hK dX8_one_2_66 (by decide) rfl ?_
          refine j_iload (pc := 67) hK dX8_one_2_67 rfl ?_
          refine j_ist3 (pc := 69) hK dX8_one_2_69 (by decide) rfl ?_
          refine j_iinc4 (pc := 70) (v := 1) hK dX8_one_2_70 (by decide) rfl (by decide) ?_
          refine j_goto (pc := 73) (tgt := 19) hK dX8_one_2_73 (by decide) ?_
          rw [nI_1]
          first
            | (refine J.fg _ ?_ (ih (i + 1) b l (by omega) (by rw [← hp]; first | rw [oneL_a c35] | rw [oneL_b c35 c52 c58])); exact ⟨rfl, rfl, rfl, rfl, rfl, trivial⟩)
            | (refine J.fg _ ?_ (ih (i + 1) (nI i) _ (by omega) (by rw [← hp]; first | rw [oneL_c c35 (Or.inl c52)] | rw [oneL_c c35 (Or.inr c58)])); exact ⟨rfl, rfl, rfl, rfl, rfl, trivial⟩)
        · refine j_iload (pc := 55) hK dX8_one_2_55 rfl ?_
          refine j_iload_n (pc := 57) hK dX8_one_2_57 rfl ?_
          refine j_icmp_lt (pc := 58) (tgt := 64) hK dX8_one_2_58 (by decide) (fun c58 => ?_) (fun c58 => ?_)
          · refine j_iload (pc := 64) hK dX8_one_2_64 rfl ?_
            refine j_ist2 (pc := 66) hK dX8_one_2_66 (by decide) rfl ?_
            refine j_iload (pc := 67) hK dX8_one_2_67 rfl ?_
            refine j_ist3 (pc := 69) hK dX8_one_2_69 (by decide) rfl ?_
            refine j_iinc4 (pc := 70) (v := 1) hK dX8_one_2_70 (by decide) rfl (by decide) ?_
            refine j_goto (pc := 73) (tgt := 19) hK dX8_one_2_73 (by decide) ?_
            rw [nI_1]
            first
              | (refine J.fg _ ?_ (ih (i + 1) b l (by omega) (by rw [← hp]; first | rw [oneL_a c35] | rw [oneL_b c35 c52 c58])); exact ⟨rfl, rfl, rfl, rfl, rfl, trivial⟩)
              | (refine J.fg _ ?_ (ih (i + 1) (nI i) _ (by omega) (by rw [← hp]; first | rw [oneL_c c35 (Or.inl c52)] | rw [oneL_c c35 (Or.inr c58)])); exact ⟨rfl, rfl, rfl, rfl, rfl, trivial⟩)
          · refine j_goto (pc := 61) (tgt := 70) hK dX8_one_2_61 (by decide) ?_
            refine j_iinc4 (pc := 70) (v := 1) hK dX8_one_2_70 (by decide) rfl (by decide) ?_
            refine j_goto (pc := 73) (tgt := 19) hK dX8_one_2_73 (by decide) ?_
            rw [nI_1]
            first
              | (refine J.fg _ ?_ (ih (i + 1) b l (by omega) (by rw [← hp]; first | rw [oneL_a c35] | rw [oneL_b c35 c52 c58])); exact ⟨rfl, rfl, rfl, rfl, rfl, trivial⟩)
              | (refine J.fg _ ?_ (ih (i + 1) (nI i) _ (by omega) (by rw [← hp]; first | rw [oneL_c c35 (Or.inl c52)] | rw [oneL_c c35 (Or.inr c58)])); exact ⟨rfl, rfl, rfl, rfl, rfl, trivial⟩)
      · refine j_goto (pc := 38) (tgt := 70) hK dX8_one_2_38 (by decide) ?_
        refine j_iinc4 (pc := 70) (v := 1) hK dX8_one_2_70 (by decide) rfl (by decide) ?_
        refine j_goto (pc := 73) (tgt := 19) hK dX8_one_2_73 (by decide) ?_
        rw [nI_1]
        first
          | (refine J.fg _ ?_ (ih (i + 1) b l (by omega) (by rw [← hp]; first | rw [oneL_a c35] | rw [oneL_b c35 c52 c58])); exact ⟨rfl, rfl, rfl, rfl, rfl, trivial⟩)
          | (refine J.fg _ ?_ (ih (i + 1) (nI i) _ (by omega) (by rw [← hp]; first | rw [oneL_c c35 (Or.inl c52)] | rw [oneL_c c35 (Or.inr c58)])); exact ⟨rfl, rfl, rfl, rfl, rfl, trivial⟩)
  refine j_iload_n (pc := 0) hK dX8_one_2_0 rfl ?_
  refine j_iconst (pc := 1) (v := 0) hK dX8_one_2_1 (by decide) ?_
  refine j_iconst (pc := 2) (v := 1) hK dX8_one_2_2 (by decide) ?_
  refine j_callS (pc := 3) hK hQ (c_Ywithin _ _ _) cal_X8_within q1167 dX8_one_2_3 rfl rfl (nle rfl) (nle rfl) (nle rfl) (nle rfl) (kr_i fun r3 => ?_) kx_i
  refine J.pre fun e3 => ?_
  subst e3
  refine j_if_ne_b (pc := 6) (tgt := 12) hK dX8_one_2_6 (by decide) (fun c6 => ?_) (fun c6 => ?_)
  · refine j_iconst (pc := 12) (v := (-1)) hK dX8_one_2_12 (by decide) ?_
    refine j_ist2 (pc := 13) hK dX8_one_2_13 (by decide) rfl ?_
    refine j_iconst (pc := 14) (v := 0) hK dX8_one_2_14 (by decide) ?_
    refine j_ist3 (pc := 15) hK dX8_one_2_15 (by decide) rfl ?_
    refine j_iconst (pc := 16) (v := 0) hK dX8_one_2_16 (by decide) ?_
    refine j_ist4 (pc := 17) hK dX8_one_2_17 (by decide) rfl ?_
    exact loop (by unfold oOne; rw [if_neg (fun z => z c6)]) nb 0 _ _ (by omega) rfl
  · refine j_bipush (pc := 9) (v := (-2)) hK dX8_one_2_9 (by decide) ?_
    exact j_iret (pc := 11) hK hQ (nle rfl) (nle rfl) dX8_one_2_11 (fun h w => ⟨_, rfl, by unfold oOne; rw [if_pos c6], w⟩)
theorem c_Ythunder (n what : Int32) {nb : Nat} (hn : nb ≤ 7) (e0 : f 0 = nI nb) (h11 : ¬ (0 : Int32) = f 11) (ho : OkR f T) : Ct Γ A yX8_thunder wX8_thunder 21 0 0 [.ref (L 40), .int n, .int what] (YI Γ L f g T) (RI fun r h => r = oThunder f g T nb n what ∧ YI Γ L f g T h) := by
  refine Ct.of (cc := cX8_thunder) (nL := 6) (ret := (some .int)) (ls := [some (.ref (L 40)), some (.int n), some (.int what), none, none, none]) rfl rfl rfl (nle rfl) ?_
  intro K hK hQ
  have h128 := pow_128 hn
  have loop0 : oThunder f g T nb n what = thS f g T n nb → ∀ (r i : Nat), i + r = nb → J Γ A K 32 [some (.ref (L 40)), some (.int n), some (.int what), some (.int (thS f g T n i)), some (.int (nI i)), none] [] (YI Γ L f g T) 0 0 := by
    intro hq r
    induction r with
    | zero =>
      intro i hi
      have : i = nb := by omega
      subst this
      refine j_iload (pc := 32) hK dX8_thunder_32 rfl ?_
      refine j_aload_n (pc := 34) hK dX8_thunder_34 rfl ?_
      refine yi_getI (pc := 35) (k := 0) hK (by decide) rfl rfl q1240 rfl dX8_thunder_35 ?_
      refine j_icmp_ge (pc := 38) (tgt := 89) hK dX8_thunder_38 (by decide) (fun c38 => ?_) (fun c38 => absurd (by rw [e0]; exact nI_le (by omega) (by omega)) c38)
      refine j_iload_n (pc := 89) hK dX8_thunder_89 rfl ?_
      exact j_iret (pc := 90) hK hQ (nle rfl) (nle rfl) dX8_thunder_90 (fun h w => ⟨_, rfl, hq.symm, w⟩)
    | succ r ih =>
      intro i hi
      have hb : vp_in (nI i) 7 := vp_in_nI (by omega) (by decide)
      refine j_iload (pc := 32) hK dX8_thunder_32 rfl ?_
      refine j_aload_n (pc := 34) hK dX8_thunder_34 rfl ?_
      refine yi_getI (pc := 35) (k := 0) hK (by decide) rfl rfl q1240 rfl dX8_thunder_35 ?_
      refine j_icmp_ge (pc := 38) (tgt := 89) hK dX8_thunder_38 (by decide) (fun c38 => absurd c38 (by rw [e0]; exact nI_ge (by omega) (by omega))) (fun c38 => ?_)
      refine j_aload_n (pc := 41) hK dX8_thunder_41 rfl ?_
      refine j_iload (pc := 42) hK dX8_thunder_42 rfl ?_
      refine j_callV (pc := 44) hK hQ (c_YwouldBeIn _ (by assumption) ho) cal_X8_wouldBeIn yi_isC q1446 dX8_thunder_44 rfl rfl (nle rfl) (nle rfl) (nle rfl) (nle rfl) (kr_i fun r44 => ?_) kx_i
      refine J.pre fun e44 => ?_
      subst e44
      refine j_ist5 (pc := 47) hK dX8_thunder_47 (by decide) rfl ?_
      refine j_aload_n (pc := 49) hK dX8_thunder_49 rfl ?_
      refine yi_getR (pc := 50) (k := 6) hK (by decide) rfl q1246 rfl dX8_thunder_50 ?_
      refine j_iload (pc := 53) hK dX8_thunder_53 rfl ?_
      refine yi_ald (pc := 55) (k := 6) hK rfl rfl (by first | assumption | exact vp_in_c (by decide)) dX8_thunder_55 ?_
      refine j_iconst (pc := 56) (v := 2) hK dX8_thunder_56 (by decide) ?_
      refine j_icmp_eq (pc := 57) (tgt := 76) hK dX8_thunder_57 (by decide) (fun c57 => ?_) (fun c57 => ?_)
      · refine j_iload_n (pc := 76) hK dX8_thunder_76 rfl ?_
        refine j_iconst (pc := 77) (v := 1) hK dX8_thunder_77 (by decide) ?_
        refine j_iload (pc := 78) hK dX8_thunder_78 rfl ?_
        refine j_ishl (pc := 80) hK dX8_thunder_80 ?_
        refine j_ior (pc := 81) hK dX8_thunder_81 ?_
        refine j_ist3 (pc := 82) hK dX8_thunder_82 (by decide) rfl ?_
        refine j_iinc4 (pc := 83) (v := 1) hK dX8_thunder_83 (by decide) rfl (by decide) ?_
        refine j_goto (pc := 86) (tgt := 32) hK dX8_thunder_86 (by decide) ?_
        rw [nI_1]
        first | rw [← thS_a c57] | rw [← thS_b c62 c73] | rw [← thS_c c57 c62] | rw [← thS_d c57 c73]
        refine J.fg _ ?_ (ih (i + 1) (by omega))
        exact ⟨rfl, rfl, rfl, rfl, rfl, trivial⟩
      · refine j_iload (pc := 60) hK dX8_thunder_60 rfl ?_
        refine j_if_lt (pc := 62) (tgt := 83) hK dX8_thunder_62 (by decide) (fun c62 => ?_) (fun c62 => ?_)
        · refine j_iinc4 (pc := 83) (v := 1) hK dX8_thunder_83 (by decide) rfl (by decide) ?_
          refine j_goto (pc := 86) (tgt := 32) hK dX8_thunder_86 (by decide) ?_
          rw [nI_1]
          first | rw [← thS_a c57] | rw [← thS_b c62 c73] | rw [← thS_c c57 c62] | rw [← thS_d c57 c73]
          refine J.fg _ ?_ (ih (i + 1) (by omega))
          exact ⟨rfl, rfl, rfl, rfl, rfl, trivial⟩
        · refine j_iload (pc := 65) hK dX8_thunder_65 rfl ?_
          refine j_aload_n (pc := 67) hK dX8_thunder_67 rfl ?_
          refine yi_getI (pc := 68) (k := 10) hK (by decide) rfl rfl q1250 rfl dX8_thunder_68 ?_
          refine j_iload_n (pc := 71) hK dX8_thunder_71 rfl ?_
          refine j_iadd (pc := 72) hK dX8_thunder_72 ?_
          refine j_icmp_gt (pc := 73) (tgt := 83) hK dX8_thunder_73 (by decide) (fun c73 => ?_) (fun c73 => ?_)
          · refine j_iinc4 (pc := 83) (v := 1) hK dX8_thunder_83 (by decide) rfl (by decide) ?_
            refine j_goto (pc := 86) (tgt := 32) hK dX8_thunder_86 (by decide) ?_
            rw [nI_1]
            first | rw [← thS_a c57] | rw [← thS_b c62 c73] | rw [← thS_c c57 c62] | rw [← thS_d c57 c73]
            refine J.fg _ ?_ (ih (i + 1) (by omega))
            exact ⟨rfl, rfl, rfl, rfl, rfl, trivial⟩
          · refine j_iload_n (pc := 76) hK dX8_thunder_76 rfl ?_
            refine j_iconst (pc := 77) (v := 1) hK dX8_thunder_77 (by decide) ?_
            refine j_iload (pc := 78) hK dX8_thunder_78 rfl ?_
            refine j_ishl (pc := 80) hK dX8_thunder_80 ?_
            refine j_ior (pc := 81) hK dX8_thunder_81 ?_
            refine j_ist3 (pc := 82) hK dX8_thunder_82 (by decide) rfl ?_
            refine j_iinc4 (pc := 83) (v := 1) hK dX8_thunder_83 (by decide) rfl (by decide) ?_
            refine j_goto (pc := 86) (tgt := 32) hK dX8_thunder_86 (by decide) ?_
            rw [nI_1]
            first | rw [← thS_a c57] | rw [← thS_b c62 c73] | rw [← thS_c c57 c62] | rw [← thS_d c57 c73]
            refine J.fg _ ?_ (ih (i + 1) (by omega))
            exact ⟨rfl, rfl, rfl, rfl, rfl, trivial⟩
  have e2 : (1 : Int32) <<< (f 0 &&& 31) = nI (2 ^ nb) := by rw [e0]; exact shl_i nb (by omega)
  have loop1 : oThunder f g T nb n what = nI (mxI f g T nb n (2 ^ nb - 1)) → ∀ (r k : Nat), k + 1 + r = 2 ^ nb → J Γ A K 102 [some (.ref (L 40)), some (.int n), some (.int what), some (.int (nobS f g T nb)), some (.int (nI (mxI f g T nb n k))), some (.int (nI (k + 1)))] [] (YI Γ L f g T) 0 0 := by
    intro hq r
    induction r with
    | zero =>
      intro k hk
      have : k = 2 ^ nb - 1 := by omega
      subst this
      refine j_iload (pc := 102) hK dX8_thunder_102 rfl ?_
      refine j_iconst (pc := 104) (v := 1) hK dX8_thunder_104 (by decide) ?_
      refine j_aload_n (pc := 105) hK dX8_thunder_105 rfl ?_
      refine yi_getI (pc := 106) (k := 0) hK (by decide) rfl rfl q1240 rfl dX8_thunder_106 ?_
      refine j_ishl (pc := 109) hK dX8_thunder_109 ?_
      rw [e2]
      refine j_icmp_ge (pc := 110) (tgt := 155) hK dX8_thunder_110 (by decide) (fun c110 => ?_) (fun c110 => absurd (nI_le (by omega) (by omega)) c110)
      refine j_iload (pc := 155) hK dX8_thunder_155 rfl ?_
      exact j_iret (pc := 157) hK hQ (nle rfl) (nle rfl) dX8_thunder_157 (fun h w => ⟨_, rfl, hq.symm, w⟩)
    | succ r ih =>
      intro k hk
      have h7 := mx_7 (f := f) (g := g) (T := T) (nb := nb) (n := n) k
      have hp7 : pc7 (k + 1) ≤ 7 := by unfold pc7; omega
      refine j_iload (pc := 102) hK dX8_thunder_102 rfl ?_
      refine j_iconst (pc := 104) (v := 1) hK dX8_thunder_104 (by decide) ?_
      refine j_aload_n (pc := 105) hK dX8_thunder_105 rfl ?_
      refine yi_getI (pc := 106) (k := 0) hK (by decide) rfl rfl q1240 rfl dX8_thunder_106 ?_
      refine j_ishl (pc := 109) hK dX8_thunder_109 ?_
      rw [e2]
      refine j_icmp_ge (pc := 110) (tgt := 155) hK dX8_thunder_110 (by decide) (fun c110 => absurd c110 (nI_ge (by omega) (by omega))) (fun c110 => ?_)
      refine j_iload (pc := 113) hK dX8_thunder_113 rfl ?_
      refine j_iload_n (pc := 115) hK dX8_thunder_115 rfl ?_
      refine j_iconst (pc := 116) (v := (-1)) hK dX8_thunder_116 (by decide) ?_
      refine j_ixor (pc := 117) hK dX8_thunder_117 ?_
      refine j_iand (pc := 118) hK dX8_thunder_118 ?_
      refine j_if_ne (pc := 119) (tgt := 149) hK dX8_thunder_119 (by decide) (fun c119 => ?_) (fun c119 => ?_)
      · try have c129' : ¬ mxI f g T nb n k < pc7 (k + 1) := fun z => absurd c129 (nI_ge z (by omega))
        try have c129'' : mxI f g T nb n k < pc7 (k + 1) := Nat.lt_of_not_le (fun z => c129 (nI_le z (by omega)))
        refine j_iinc5 (pc := 149) (v := 1) hK dX8_thunder_149 (by decide) rfl (by decide) ?_
        refine j_goto (pc := 152) (tgt := 102) hK dX8_thunder_152 (by decide) ?_
        rw [nI_1]
        first
          | (rw [← mx_a (k := k) (n := n) c119]; exact ih (k + 1) (by omega))
          | (rw [← mx_b (k := k) (n := n) c129']; exact ih (k + 1) (by omega))
          | (rw [← mx_c (k := k) (n := n) c139]; exact ih (k + 1) (by omega))
          | (rw [← mx_d (k := k) (n := n) c119 c129'' c139]; exact ih (k + 1) (by omega))
      · refine j_iload (pc := 122) hK dX8_thunder_122 rfl ?_
        refine j_callS (pc := 124) hK hQ (c_bitCount _) cal_J9_bitCount q1466 dX8_thunder_124 rfl rfl (nle rfl) (nle rfl) (nle rfl) (nle rfl) (kr_i fun r124 => ?_) kx_i
        refine J.pre fun e124 => ?_
        subst e124
        rw [bc_pc (k + 1) (by omega)]
        refine j_iload (pc := 127) hK dX8_thunder_127 rfl ?_
        refine j_icmp_le (pc := 129) (tgt := 149) hK dX8_thunder_129 (by decide) (fun c129 => ?_) (fun c129 => ?_)
        · try have c129' : ¬ mxI f g T nb n k < pc7 (k + 1) := fun z => absurd c129 (nI_ge z (by omega))
          try have c129'' : mxI f g T nb n k < pc7 (k + 1) := Nat.lt_of_not_le (fun z => c129 (nI_le z (by omega)))
          refine j_iinc5 (pc := 149) (v := 1) hK dX8_thunder_149 (by decide) rfl (by decide) ?_
          refine j_goto (pc := 152) (tgt := 102) hK dX8_thunder_152 (by decide) ?_
          rw [nI_1]
          first
            | (rw [← mx_a (k := k) (n := n) c119]; exact ih (k + 1) (by omega))
            | (rw [← mx_b (k := k) (n := n) c129']; exact ih (k + 1) (by omega))
            | (rw [← mx_c (k := k) (n := n) c139]; exact ih (k + 1) (by omega))
            | (rw [← mx_d (k := k) (n := n) c119 c129'' c139]; exact ih (k + 1) (by omega))
        · refine j_aload_n (pc := 132) hK dX8_thunder_132 rfl ?_
          refine j_iload (pc := 133) hK dX8_thunder_133 rfl ?_
          refine j_callV (pc := 135) hK hQ (c_Yfetches hn e0 h11 (show k + 1 < 128 by omega)) cal_X8_fetches yi_isC q1458 dX8_thunder_135 rfl rfl (nle rfl) (nle rfl) (nle rfl) (nle rfl) (kr_i fun r135 => ?_) kx_i
          refine J.pre fun e135 => ?_
          subst e135
          refine J.mono (P' := YI Γ L f g T) (fun h w => yg_yi w) ?_
          refine j_iload_n (pc := 138) hK dX8_thunder_138 rfl ?_
          refine j_icmp_gt (pc := 139) (tgt := 149) hK dX8_thunder_139 (by decide) (fun c139 => ?_) (fun c139 => ?_)
          · try have c129' : ¬ mxI f g T nb n k < pc7 (k + 1) := fun z => absurd c129 (nI_ge z (by omega))
            try have c129'' : mxI f g T nb n k < pc7 (k + 1) := Nat.lt_of_not_le (fun z => c129 (nI_le z (by omega)))
            refine j_iinc5 (pc := 149) (v := 1) hK dX8_thunder_149 (by decide) rfl (by decide) ?_
            refine j_goto (pc := 152) (tgt := 102) hK dX8_thunder_152 (by decide) ?_
            rw [nI_1]
            first
              | (rw [← mx_a (k := k) (n := n) c119]; exact ih (k + 1) (by omega))
              | (rw [← mx_b (k := k) (n := n) c129']; exact ih (k + 1) (by omega))
              | (rw [← mx_c (k := k) (n := n) c139]; exact ih (k + 1) (by omega))
              | (rw [← mx_d (k := k) (n := n) c119 c129'' c139]; exact ih (k + 1) (by omega))
          · refine j_iload (pc := 142) hK dX8_thunder_142 rfl ?_
            refine j_callS (pc := 144) hK hQ (c_bitCount _) cal_J9_bitCount q1466 dX8_thunder_144 rfl rfl (nle rfl) (nle rfl) (nle rfl) (nle rfl) (kr_i fun r144 => ?_) kx_i
            refine J.pre fun e144 => ?_
            subst e144
            rw [bc_pc (k + 1) (by omega)]
            refine j_ist4 (pc := 147) hK dX8_thunder_147 (by decide) rfl ?_
            try have c129' : ¬ mxI f g T nb n k < pc7 (k + 1) := fun z => absurd c129 (nI_ge z (by omega))
            try have c129'' : mxI f g T nb n k < pc7 (k + 1) := Nat.lt_of_not_le (fun z => c129 (nI_le z (by omega)))
            refine j_iinc5 (pc := 149) (v := 1) hK dX8_thunder_149 (by decide) rfl (by decide) ?_
            refine j_goto (pc := 152) (tgt := 102) hK dX8_thunder_152 (by decide) ?_
            rw [nI_1]
            first
              | (rw [← mx_a (k := k) (n := n) c119]; exact ih (k + 1) (by omega))
              | (rw [← mx_b (k := k) (n := n) c129']; exact ih (k + 1) (by omega))
              | (rw [← mx_c (k := k) (n := n) c139]; exact ih (k + 1) (by omega))
              | (rw [← mx_d (k := k) (n := n) c119 c129'' c139]; exact ih (k + 1) (by omega))
  refine j_iload_n (pc := 0) hK dX8_thunder_0 rfl ?_
  refine j_iconst (pc := 1) (v := 0) hK dX8_thunder_1 (by decide) ?_
  refine j_sipush (pc := 2) (v := 240) hK dX8_thunder_2 (by decide) ?_
  refine j_callS (pc := 5) hK hQ (c_Ywithin _ _ _) cal_X8_within q1167 dX8_thunder_5 rfl rfl (nle rfl) (nle rfl) (nle rfl) (nle rfl) (kr_i fun r5 => ?_) kx_i
  refine J.pre fun e5 => ?_
  subst e5
  refine j_if_eq_b (pc := 8) (tgt := 20) hK dX8_thunder_8 (by decide) (fun c8 => ?_) (fun c8 => ?_)
  · refine j_bipush (pc := 20) (v := (-2)) hK dX8_thunder_20 (by decide) ?_
    exact j_iret (pc := 22) hK hQ (nle rfl) (nle rfl) dX8_thunder_22 (fun h w => ⟨_, rfl, by unfold oThunder; first | rw [if_pos c8] | rw [if_neg (fun z => z c8), if_pos c17], w⟩)
  · refine j_iload_n (pc := 11) hK dX8_thunder_11 rfl ?_
    refine j_iconst (pc := 12) (v := 0) hK dX8_thunder_12 (by decide) ?_
    refine j_iconst (pc := 13) (v := 1) hK dX8_thunder_13 (by decide) ?_
    refine j_callS (pc := 14) hK hQ (c_Ywithin _ _ _) cal_X8_within q1167 dX8_thunder_14 rfl rfl (nle rfl) (nle rfl) (nle rfl) (nle rfl) (kr_i fun r14 => ?_) kx_i
    refine J.pre fun e14 => ?_
    subst e14
    refine j_if_ne_b (pc := 17) (tgt := 23) hK dX8_thunder_17 (by decide) (fun c17 => ?_) (fun c17 => ?_)
    · refine j_iload_n (pc := 23) hK dX8_thunder_23 rfl ?_
      refine j_if_ne (pc := 24) (tgt := 91) hK dX8_thunder_24 (by decide) (fun c24 => ?_) (fun c24 => ?_)
      · refine j_aload_n (pc := 91) hK dX8_thunder_91 rfl ?_
        refine j_callV (pc := 92) hK hQ (c_Ynobody hn e0 ho) cal_X8_nobody yi_isC q1479 dX8_thunder_92 rfl rfl (nle rfl) (nle rfl) (nle rfl) (nle rfl) (kr_i fun r92 => ?_) kx_i
        refine J.pre fun e92 => ?_
        subst e92
        refine j_ist3 (pc := 95) hK dX8_thunder_95 (by decide) rfl ?_
        refine j_iconst (pc := 96) (v := 0) hK dX8_thunder_96 (by decide) ?_
        refine j_ist4 (pc := 97) hK dX8_thunder_97 (by decide) rfl ?_
        refine j_iconst (pc := 99) (v := 1) hK dX8_thunder_99 (by decide) ?_
        refine j_ist5 (pc := 100) hK dX8_thunder_100 (by decide) rfl ?_
        exact loop1 (by unfold oThunder; rw [if_neg (fun z => z c8), if_neg (fun z => z c17), if_neg c24]) (2 ^ nb - 1) 0 (by omega)
      · refine j_iconst (pc := 27) (v := 0) hK dX8_thunder_27 (by decide) ?_
        refine j_ist3 (pc := 28) hK dX8_thunder_28 (by decide) rfl ?_
        refine j_iconst (pc := 29) (v := 0) hK dX8_thunder_29 (by decide) ?_
        refine j_ist4 (pc := 30) hK dX8_thunder_30 (by decide) rfl ?_
        exact loop0 (by unfold oThunder; rw [if_neg (fun z => z c8), if_neg (fun z => z c17), if_pos c24]) nb 0 (by omega)
    · refine j_bipush (pc := 20) (v := (-2)) hK dX8_thunder_20 (by decide) ?_
      exact j_iret (pc := 22) hK hQ (nle rfl) (nle rfl) dX8_thunder_22 (fun h w => ⟨_, rfl, by unfold oThunder; first | rw [if_pos c8] | rw [if_neg (fun z => z c8), if_pos c17], w⟩)
end Y11
