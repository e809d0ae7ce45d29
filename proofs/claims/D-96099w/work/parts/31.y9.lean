/-! bitCount; onTheLake, goes, fetches -/
set_option maxRecDepth 100000
def ushI (x n : Int32) : Int32 := (x.toUInt32 >>> (n.toUInt32 &&& Int32.toUInt32 31)).toInt32
def bc1 (x : Int32) : Int32 := x - (ushI x 1 &&& 1431655765)
def bc2 (x : Int32) : Int32 := (bc1 x &&& 858993459) + (ushI (bc1 x) 2 &&& 858993459)
def bc3 (x : Int32) : Int32 := (bc2 x + ushI (bc2 x) 4) &&& 252645135
def bc4 (x : Int32) : Int32 := bc3 x + ushI (bc3 x) 8
def bcI (x : Int32) : Int32 := (bc4 x + ushI (bc4 x) 16) &&& 63
/-- how many of seven bits are set -/
def pc7 (s : Nat) : Nat := s % 2 + s / 2 % 2 + s / 4 % 2 + s / 8 % 2 + s / 16 % 2 + s / 32 % 2 + s / 64 % 2
theorem bc_pc : ∀ s, s < 128 → bcI (nI s) = nI (pc7 s) := by decide +kernel
theorem bit_s : ∀ s, s < 128 → ∀ i, i < 7 → (nI s >>> (nI i &&& 31)) &&& 1 = nI (s / 2 ^ i % 2) := by decide +kernel
theorem shl_i : ∀ i, i < 8 → (1 : Int32) <<< (nI i &&& 31) = nI (2 ^ i) := by decide +kernel
theorem clr_s : ∀ s, s < 128 → ∀ i, i < 7 → s / 2 ^ i % 2 = 1 → nI s &&& (nI (2 ^ i) ^^^ (-1)) = nI (s - 2 ^ i) ∧ pc7 (s - 2 ^ i) + 1 = pc7 s ∧ 2 ^ i ≤ s := by decide +kernel
theorem pc_0 : ∀ s, s < 128 → (pc7 s = 0 ↔ s = 0) := by decide +kernel
section S9
variable (f : Nat → Int32) (g : Nat → Int32 → Int32)
/-- the minutes of an order, from here with so many towed and gone -/
def tmI : Int32 → Int32 → Int32 → List Nat → Int32
  | here, towed, gone, [] => gone + farI here 0 * (f 12 + towed)
  | here, towed, gone, b :: os => if towed = f 11 then tmI (g 3 (nI b)) (0 + 1) (gone + farI here 0 * (f 12 + towed) + farI 0 (g 3 (nI b)) * (f 12 + 0)) os else tmI (g 3 (nI b)) (towed + 1) (gone + farI here (g 3 (nI b)) * (f 12 + towed)) os
abbrev Acc : Type := Int32 × List Nat
def leafI (t : Int32) (os : List Nat) (acc : Acc) : Acc := if 0 ≤ acc.1 ∧ acc.1 ≤ t then acc else (t, os)
/-- all orders of the set s behind pre, the first of the shortest -/
def enI (nb : Nat) : Nat → Nat → List Nat → Acc → Acc
  | 0, _, pre, acc => leafI (tmI f g 0 0 0 pre) pre acc
  | n + 1, s, pre, acc => (List.range nb).foldl (fun acc i => if s / 2 ^ i % 2 = 1 then enI nb n (s - 2 ^ i) (pre ++ [i]) acc else acc) acc
def fetI (nb s : Nat) : Acc := enI f g nb (pc7 s) s [] (-1, [])
/-- those of the set among the first i boats are on the lake -/
def lakeS (s : Nat) (i : Nat) : Prop := ∀ j, j < i → s / 2 ^ j % 2 = 1 → g 6 (nI j) = 0
end S9
theorem rng_s {α : Type} (F : α → Nat → α) (a : α) (i : Nat) : (List.range (i + 1)).foldl F a = F ((List.range i).foldl F a) i := by
  rw [List.range_succ, List.foldl_append]
  rfl
def YG (Γ : Gam) (L : Nat → Nat) (f : Nat → Int32) (g : Nat → Int32 → Int32) (T : TX) (acc : Acc) (pre : List Nat) (h : PH) : Prop := ∃ f' g', YW Γ L f' g' h ∧ Ess f' g' f g ∧ YT f' g' T ∧ f' 29 = acc.1 ∧ (∀ j x, acc.2[j]? = some x → g' 31 (nI j) = nI x) ∧ (∀ j x, pre[j]? = some x → g' 30 (nI j) = nI x)
section Y9
variable {Γ : Gam} {A : Nat → Prop} {L : Nat → Nat} {f : Nat → Int32} {g : Nat → Int32 → Int32} {T : TX} {P : PH → Prop} {K : JC} {pc : Nat} {ls : List (Option Value)} {st : List Value} {cs ss : Nat} {acc : Acc} {pre : List Nat}
theorem yg_open (k : ∀ f' g', Ess f' g' f g → YT f' g' T → f' 29 = acc.1 → (∀ j x, acc.2[j]? = some x → g' 31 (nI j) = nI x) → (∀ j x, pre[j]? = some x → g' 30 (nI j) = nI x) → J Γ A K pc ls st (YW Γ L f' g') cs ss) : J Γ A K pc ls st (YG Γ L f g T acc pre) cs ss := fun h H locs arr ⟨f', g', w, e, t, a, b, c⟩ hR hL => k f' g' e t a b c h H locs arr w hR hL
theorem yg_isC : IsC (YG Γ L f g T acc pre) (L 40) RX8 := fun h ⟨f', g', w, _⟩ => ⟨7, _, _, w.1, rfl, rfl⟩
theorem YT.junkF {f : Nat → Int32} {g : Nat → Int32 → Int32} (t : YT f g T) {f' : Nat → Int32} (h : f' 17 = f 17) : YT f' g T := fun x a b => t x a (by rw [← h]; exact b)
theorem Ess.junkF {f' : Nat → Int32} {g' : Nat → Int32 → Int32} (e : Ess f' g' f g) {k : Nat} (hk : ess k = false) (v : Int32) : Ess (upd f' k v) g' f g := fun j hj => ⟨by
  unfold upd
  rw [if_neg (fun z => by subst z; rw [hk] at hj; cases hj)]
  exact (e j hj).1, (e j hj).2⟩
theorem Ess.junkA {f' : Nat → Int32} {g' : Nat → Int32 → Int32} (e : Ess f' g' f g) {k : Nat} (hk : ess k = false) (i v : Int32) : Ess f' (ug g' k i v) f g := fun j hj => ⟨(e j hj).1, fun x => by
  rw [ug_k g' i v (fun z => by subst z; rw [hk] at hj; cases hj)]
  exact (e j hj).2 x⟩
abbrev wJ9_bitCount : List Cond := ws_ yJ9_bitCount cJ9_bitCount 1 (some .int)
theorem cal_J9_bitCount : CalS yJ9_bitCount wJ9_bitCount 1 1 := ⟨lw_meth q924, q923, q94, CodeOf.of q924, ⟨by decide, by decide⟩, (by decide +kernel), by decide⟩
theorem c_bitCount (x : Int32) : Ct Γ A yJ9_bitCount wJ9_bitCount 1 0 0 [.int x] P (RI fun r h => r = bcI x ∧ P h) := by
  refine Ct.of (cc := cJ9_bitCount) (nL := 1) (ret := (some .int)) (ls := [some (.int x)]) rfl rfl rfl (nle rfl) ?_
  intro K hK hQ
  refine j_iload_n (pc := 0) hK dJ9_bitCount_0 rfl ?_
  refine j_iload_n (pc := 1) hK dJ9_bitCount_1 rfl ?_
  refine j_iconst (pc := 2) (v := 1) hK dJ9_bitCount_2 (by decide) ?_
  refine j_iushr (pc := 3) hK dJ9_bitCount_3 ?_
  refine j_ldcw (pc := 4) hK q925 dJ9_bitCount_4 ?_
  refine j_iand (pc := 7) hK dJ9_bitCount_7 ?_
  refine j_isub (pc := 8) hK dJ9_bitCount_8 ?_
  refine j_ist0 (pc := 9) hK dJ9_bitCount_9 (by decide) ?_
  refine j_iload_n (pc := 10) hK dJ9_bitCount_10 rfl ?_
  refine j_ldcw (pc := 11) hK q926 dJ9_bitCount_11 ?_
  refine j_iand (pc := 14) hK dJ9_bitCount_14 ?_
  refine j_iload_n (pc := 15) hK dJ9_bitCount_15 rfl ?_
  refine j_iconst (pc := 16) (v := 2) hK dJ9_bitCount_16 (by decide) ?_
  refine j_iushr (pc := 17) hK dJ9_bitCount_17 ?_
  refine j_ldcw (pc := 18) hK q926 dJ9_bitCount_18 ?_
  refine j_iand (pc := 21) hK dJ9_bitCount_21 ?_
  refine j_iadd (pc := 22) hK dJ9_bitCount_22 ?_
  refine j_ist0 (pc := 23) hK dJ9_bitCount_23 (by decide) ?_
  refine j_iload_n (pc := 24) hK dJ9_bitCount_24 rfl ?_
  refine j_iload_n (pc := 25) hK dJ9_bitCount_25 rfl ?_
  refine j_iconst (pc := 26) (v := 4) hK dJ9_bitCount_26 (by decide) ?_
  refine j_iushr (pc := 27) hK dJ9_bitCount_27 ?_
  refine j_iadd (pc := 28) hK dJ9_bitCount_28 ?_
  refine j_ldcw (pc := 29) hK q927 dJ9_bitCount_29 ?_
  refine j_iand (pc := 32) hK dJ9_bitCount_32 ?_
  refine j_ist0 (pc := 33) hK dJ9_bitCount_33 (by decide) ?_
  refine j_iload_n (pc := 34) hK dJ9_bitCount_34 rfl ?_
  refine j_iload_n (pc := 35) hK dJ9_bitCount_35 rfl ?_
  refine j_bipush (pc := 36) (v := 8) hK dJ9_bitCount_36 (by decide) ?_
  refine j_iushr (pc := 38) hK dJ9_bitCount_38 ?_
  refine j_iadd (pc := 39) hK dJ9_bitCount_39 ?_
  refine j_ist0 (pc := 40) hK dJ9_bitCount_40 (by decide) ?_
  refine j_iload_n (pc := 41) hK dJ9_bitCount_41 rfl ?_
  refine j_iload_n (pc := 42) hK dJ9_bitCount_42 rfl ?_
  refine j_bipush (pc := 43) (v := 16) hK dJ9_bitCount_43 (by decide) ?_
  refine j_iushr (pc := 45) hK dJ9_bitCount_45 ?_
  refine j_iadd (pc := 46) hK dJ9_bitCount_46 ?_
  refine j_ist0 (pc := 47) hK dJ9_bitCount_47 (by decide) ?_
  refine j_iload_n (pc := 48) hK dJ9_bitCount_48 rfl ?_
  refine j_bipush (pc := 49) (v := 63) hK dJ9_bitCount_49 (by decide) ?_
  refine j_iand (pc := 51) hK dJ9_bitCount_51 ?_
  exact j_iret (pc := 52) hK hQ (nle rfl) (nle rfl) dJ9_bitCount_52 (fun h w => ⟨_, rfl, rfl, w⟩)
theorem lk_no {s i : Nat} {nb : Nat} (hi : i < nb) (h1 : s / 2 ^ i % 2 = 1) (h2 : ¬ g 6 (nI i) = 0) : ¬ (s < 2 ^ nb ∧ lakeS g s nb) := fun z => h2 (z.2 i hi h1)
theorem lk_st {s i : Nat} (h : lakeS g s i) (h2 : s / 2 ^ i % 2 = 1 → g 6 (nI i) = 0) : lakeS g s (i + 1) := fun j hj hb => by
  rcases Nat.lt_or_ge j i with q | q
  · exact h j q hb
  · have : j = i := by omega
    subst this
    exact h2 hb
theorem c_YonTheLake (x : Int32) {nb : Nat} (hn : nb ≤ 7) (e0 : f 0 = nI nb) : Ct Γ A yX8_onTheLake wX8_onTheLake 1 0 0 [.ref (L 40), .int x] (YI Γ L f g T) (RI fun r h => (r = 0 ∨ r = 1) ∧ (r = 1 ↔ ∃ s : Nat, x = nI s ∧ s < 2 ^ nb ∧ lakeS g s nb) ∧ YI Γ L f g T h) := by
  refine Ct.of (cc := cX8_onTheLake) (nL := 3) (ret := (some .boolean)) (ls := [some (.ref (L 40)), some (.int x), none]) rfl rfl rfl (nle rfl) ?_
  intro K hK hQ
  have h128 : 2 ^ nb ≤ 128 := by
    have : nb = 0 ∨ nb = 1 ∨ nb = 2 ∨ nb = 3 ∨ nb = 4 ∨ nb = 5 ∨ nb = 6 ∨ nb = 7 := by omega
    rcases this with rfl | rfl | rfl | rfl | rfl | rfl | rfl | rfl <;> decide
  have loop : ∀ s : Nat, s < 2 ^ nb → x = nI s → ∀ (n i : Nat), i + n = nb → lakeS g s i → J Γ A K 18 [some (.ref (L 40)), some (.int x), some (.int (nI i))] [] (YI Γ L f g T) 0 0 := by
    intro s hs ex n
    induction n with
    | zero =>
      intro i hi hl
      have : i = nb := by omega
      subst this
      refine j_iload_n (pc := 18) hK dX8_onTheLake_18 rfl ?_
      refine j_aload_n (pc := 19) hK dX8_onTheLake_19 rfl ?_
      refine yi_getI (pc := 20) (k := 0) hK (by decide) rfl rfl q1240 rfl dX8_onTheLake_20 ?_
      refine j_icmp_ge (pc := 23) (tgt := 52) hK dX8_onTheLake_23 (by decide) (fun c23 => ?_) (fun c23 => absurd (by rw [e0]; exact nI_le (by omega) (by omega)) c23)
      refine j_iconst (pc := 52) (v := 1) hK dX8_onTheLake_52 (by decide) ?_
      exact j_bret (pc := 53) hK hQ (nle rfl) (nle rfl) dX8_onTheLake_53 (fun h w => ⟨Or.inr rfl, _, rfl, Or.inr rfl, ⟨fun _ => ⟨s, ex, hs, hl⟩, fun _ => rfl⟩, w⟩)
    | succ n ih =>
      intro i hi hl
      have hb : vp_in (nI i) 7 := vp_in_nI (by omega) (by decide)
      have ebit : (x >>> (nI i &&& 31)) &&& 1 = nI (s / 2 ^ i % 2) := by rw [ex]; exact bit_s s (by omega) i (by omega)
      have hlt : s / 2 ^ i % 2 < 2 := Nat.mod_lt _ (by decide)
      refine j_iload_n (pc := 18) hK dX8_onTheLake_18 rfl ?_
      refine j_aload_n (pc := 19) hK dX8_onTheLake_19 rfl ?_
      refine yi_getI (pc := 20) (k := 0) hK (by decide) rfl rfl q1240 rfl dX8_onTheLake_20 ?_
      refine j_icmp_ge (pc := 23) (tgt := 52) hK dX8_onTheLake_23 (by decide) (fun c23 => absurd c23 (by rw [e0]; exact nI_ge (by omega) (by omega))) (fun c23 => ?_)
      refine j_iload_n (pc := 26) hK dX8_onTheLake_26 rfl ?_
      refine j_iload_n (pc := 27) hK dX8_onTheLake_27 rfl ?_
      refine j_ishr (pc := 28) hK dX8_onTheLake_28 ?_
      refine j_iconst (pc := 29) (v := 1) hK dX8_onTheLake_29 (by decide) ?_
      refine j_iand (pc := 30) hK dX8_onTheLake_30 ?_
      rw [ebit]
      refine j_iconst (pc := 31) (v := 1) hK dX8_onTheLake_31 (by decide) ?_
      refine j_icmp_ne (pc := 32) (tgt := 46) hK dX8_onTheLake_32 (by decide) (fun c32 => ?_) (fun c32 => ?_)
      · refine j_iinc2 (pc := 46) (v := 1) hK dX8_onTheLake_46 (by decide) rfl (by decide) ?_
        refine j_goto (pc := 49) (tgt := 18) hK dX8_onTheLake_49 (by decide) ?_
        rw [nI_1]
        refine ih (i + 1) (by omega) (lk_st hl (fun hb1 => ?_))
        first | exact c41 | (exact absurd (by rw [hb1]; decide) c32)
      · refine j_aload_n (pc := 35) hK dX8_onTheLake_35 rfl ?_
        refine yi_getR (pc := 36) (k := 6) hK (by decide) rfl q1246 rfl dX8_onTheLake_36 ?_
        refine j_iload_n (pc := 39) hK dX8_onTheLake_39 rfl ?_
        refine yi_ald (pc := 40) (k := 6) hK rfl rfl (by first | assumption | exact vp_in_c (by decide)) dX8_onTheLake_40 ?_
        refine j_if_eq (pc := 41) (tgt := 46) hK dX8_onTheLake_41 (by decide) (fun c41 => ?_) (fun c41 => ?_)
        · refine j_iinc2 (pc := 46) (v := 1) hK dX8_onTheLake_46 (by decide) rfl (by decide) ?_
          refine j_goto (pc := 49) (tgt := 18) hK dX8_onTheLake_49 (by decide) ?_
          rw [nI_1]
          refine ih (i + 1) (by omega) (lk_st hl (fun hb1 => ?_))
          first | exact c41 | (exact absurd (by rw [hb1]; decide) c32)
        · have hb1 : s / 2 ^ i % 2 = 1 := by
            rw [show (1 : Int32) = nI 1 by decide, nI_eq (by omega) (by decide)] at c32
            exact c32
          refine j_iconst (pc := 44) (v := 0) hK dX8_onTheLake_44 (by decide) ?_
          exact j_bret (pc := 45) hK hQ (nle rfl) (nle rfl) dX8_onTheLake_45 (fun h w => ⟨Or.inl rfl, _, rfl, Or.inl rfl, ⟨fun z => absurd z (by decide), fun ⟨s', e', z⟩ => by
  rw [ex, nI_eq (by omega) (by omega)] at e'
  subst e'
  exact absurd z (lk_no (by omega) hb1 c41)⟩, w⟩)
  have e2 : (1 : Int32) <<< (f 0 &&& 31) = nI (2 ^ nb) := by rw [e0]; exact shl_i nb (by omega)
  refine j_iload_n (pc := 0) hK dX8_onTheLake_0 rfl ?_
  refine j_if_lt (pc := 1) (tgt := 14) hK dX8_onTheLake_1 (by decide) (fun c1 => ?_) (fun c1 => ?_)
  · have hno : ¬ ∃ s : Nat, x = nI s ∧ s < 2 ^ nb ∧ lakeS g s nb := by
      rintro ⟨s, es, hs, -⟩
      first | exact absurd c1 (by rw [es]; exact nI_pos (by omega)) | exact c11 (by rw [es]; exact nI_lt hs (by omega))
    refine j_iconst (pc := 14) (v := 0) hK dX8_onTheLake_14 (by decide) ?_
    exact j_bret (pc := 15) hK hQ (nle rfl) (nle rfl) dX8_onTheLake_15 (fun h w => ⟨Or.inl rfl, _, rfl, Or.inl rfl, ⟨fun z => absurd z (by decide), fun z => absurd z hno⟩, w⟩)
  · refine j_iload_n (pc := 4) hK dX8_onTheLake_4 rfl ?_
    refine j_iconst (pc := 5) (v := 1) hK dX8_onTheLake_5 (by decide) ?_
    refine j_aload_n (pc := 6) hK dX8_onTheLake_6 rfl ?_
    refine yi_getI (pc := 7) (k := 0) hK (by decide) rfl rfl q1240 rfl dX8_onTheLake_7 ?_
    refine j_ishl (pc := 10) hK dX8_onTheLake_10 ?_
    rw [e2]
    refine j_icmp_lt (pc := 11) (tgt := 16) hK dX8_onTheLake_11 (by decide) (fun c11 => ?_) (fun c11 => ?_)
    · obtain ⟨s, hs0, es⟩ := nI_of (x := x) c1
      have hs : s < 2 ^ nb := by rw [es] at c11; exact (nI_ltI hs0 (by omega)).mp c11
      refine j_iconst (pc := 16) (v := 0) hK dX8_onTheLake_16 (by decide) ?_
      refine j_ist2 (pc := 17) hK dX8_onTheLake_17 (by decide) rfl ?_
      exact loop s hs es nb 0 (by omega) (fun j hj => by omega)
    · have hno : ¬ ∃ s : Nat, x = nI s ∧ s < 2 ^ nb ∧ lakeS g s nb := by
        rintro ⟨s, es, hs, -⟩
        first | exact absurd c1 (by rw [es]; exact nI_pos (by omega)) | exact c11 (by rw [es]; exact nI_lt hs (by omega))
      refine j_iconst (pc := 14) (v := 0) hK dX8_onTheLake_14 (by decide) ?_
      exact j_bret (pc := 15) hK hQ (nle rfl) (nle rfl) dX8_onTheLake_15 (fun h w => ⟨Or.inl rfl, _, rfl, Or.inl rfl, ⟨fun z => absurd z (by decide), fun z => absurd z hno⟩, w⟩)
end Y9
