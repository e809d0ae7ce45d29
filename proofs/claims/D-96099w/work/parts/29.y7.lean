/-! owes, would, told, call, comesIn, passes, time, nobody, callAt, wouldBeIn, allIn -/
set_option maxRecDepth 100000
section S7
variable (f : Nat → Int32) (g : Nat → Int32 → Int32) (T : TX)
def OkR : Prop := 0 ≤ f 18 ∧ f 18 < f 17 ∧ f 17 ≤ 6 ∧ InvT f T
abbrev WC (b cell minute : Int32) : Prop := farI cell 0 ≤ hearI f g b ∧ ¬ ruleI f g T 1 b cell minute = 0 ∧ ¬ ruleI f g T 2 b cell minute = 0
def plainI (b minute : Int32) : Int32 := (maxI 0 (minute - g 4 b - g 5 b) + 14) / 15 * maxI 0 (minI 99 (ruleI f g T 0 b (g 3 b) minute))
def owesI (b minute : Int32) : Int32 := if g 1 b = 2 then plainI f g T b minute / 2 else if g 1 b = 3 then 0 else if g 1 b = 4 then plainI f g T b minute / 2 + 2 else if g 1 b = 5 then (if 0 < plainI f g T b minute then plainI f g T b minute + g 2 b else 0) else plainI f g T b minute
/-- what telling a boat answers -/
def oTold (b what : Int32) : Int32 :=
  if ¬ (0 ≤ b ∧ b ≤ f 0 - 1) then -2 else if ¬ (0 ≤ what ∧ what ≤ 10) then -2 else if what = 0 then g 3 b else if what = 1 then g 4 b else if what = 2 then g 5 b else if what = 3 then g 2 b else if what = 4 then g 1 b else if what = 5 then g 6 b else if what = 6 then g 7 b else if what = 7 then rowsI f g b else if what = 8 then hearI f g b else if what = 9 then b2i (WC f g T b (g 3 b) (f 10)) else owesI f g T b (f 10)
def oCall (b : Int32) : R3 :=
  if ¬ (0 ≤ b ∧ b ≤ f 0 - 1) then (-2, f, g) else if ¬ g 6 b = 0 then (-3, f, g) else if ¬ WC f g T b (g 3 b) (f 10) then (0, f, g) else (1, f, ug (ug g 6 b 1) 7 b (f 10 + needI f g b))
def comeG (b at_ : Int32) : Nat → Int32 → Int32 := ug (ug g 6 b 2) 7 b at_
def comeF (b at_ : Int32) : Nat → Int32 := upd (upd f 14 (f 14 + owesI f g T b at_)) 13 (maxI 0 (f 13 - 1))
/-- the minute has passed: those who are due come in -/
def passL : Nat → Nat → (Nat → Int32) → (Nat → Int32 → Int32) → Int32 → R3
  | 0, _, f, g, m => (m, f, g)
  | r + 1, i, f, g, m => if g 6 (nI i) = 1 ∧ g 7 (nI i) ≤ f 10 then passL r (i + 1) (comeF f g T (nI i) (g 7 (nI i))) (comeG g (nI i) (g 7 (nI i))) (m + 1) else passL r (i + 1) f g m
def oPass (nb : Nat) (n : Int32) : R3 := passL T nb 0 (upd f 10 (minI 9999 (f 10 + n))) g 0
def oTime (nb : Nat) (n : Int32) : R3 := if ¬ (0 ≤ n ∧ n ≤ 240) then (-2, f, g) else oPass f g T nb n
def nobS : Nat → Int32
  | 0 => 0
  | i + 1 => if g 6 (nI i) = 0 ∧ ¬ WC f g T (nI i) (g 3 (nI i)) (f 10) then nobS i ||| (1 <<< (nI i &&& 31)) else nobS i
/-- the first of n, n + 1 .. (r of them) at which a boat would be called -/
def catL (b : Int32) : Nat → Nat → Int32
  | 0, _ => -1
  | r + 1, n => if g 4 b + g 5 b ≤ f 10 + nI n + needI f g b ∧ WC f g T b (g 3 b) (f 10 + nI n) then nI n else catL b r (n + 1)
def oCallAt (b : Int32) : Int32 := if ¬ (0 ≤ b ∧ b ≤ f 0 - 1) then -2 else if ¬ g 6 b = 0 then -3 else catL f g T b 241 0
def wbiI (b : Int32) : Int32 := if g 6 b = 1 then g 7 b else if g 6 b = 0 ∧ WC f g T b (g 3 b) (f 10) then f 10 + needI f g b else -1
def allS : Nat → Int32
  | 0 => f 10
  | i + 1 => maxI (allS i) (wbiI f g T (nI i))
end S7
section P7
variable {f : Nat → Int32} {g : Nat → Int32 → Int32} {T : TX}
theorem OkR.upd (h : OkR f T) {k : Nat} (v : Int32) (h1 : k ≠ 17) (h2 : k ≠ 18) : OkR (upd f k v) T := by
  have e1 : Jvm.Pilot.@@N@@.upd f k v 17 = f 17 := if_neg (fun z => h1 z.symm)
  have e2 : Jvm.Pilot.@@N@@.upd f k v 18 = f 18 := if_neg (fun z => h2 z.symm)
  unfold OkR InvT
  rw [e1, e2]
  exact h
theorem OkR.come (h : OkR f T) {b a : Int32} : OkR (comeF f g T b a) T := (h.upd _ (by decide) (by decide)).upd _ (by decide) (by decide)
theorem b2i_t' {p : Prop} [Decidable p] (h : p) : (1 : Int32) = b2i p := (b2i_t h).symm
theorem b2i_f' {p : Prop} [Decidable p] (h : ¬ p) : (0 : Int32) = b2i p := (b2i_f h).symm
theorem WC_0 {b c m : Int32} (h : hearI f g b < farI c 0) : (0 : Int32) = b2i (WC f g T b c m) := b2i_f' (fun z => Int32.not_le.mpr h z.1)
theorem WC_1 {b c m : Int32} (h : ruleI f g T 1 b c m = 0) : (0 : Int32) = b2i (WC f g T b c m) := b2i_f' (fun z => z.2.1 h)
theorem WC_2 {b c m : Int32} (h : ruleI f g T 2 b c m = 0) : (0 : Int32) = b2i (WC f g T b c m) := b2i_f' (fun z => z.2.2 h)
theorem WC_3 {b c m : Int32} (h0 : ¬ hearI f g b < farI c 0) (h1 : ¬ ruleI f g T 1 b c m = 0) (h2 : ¬ ruleI f g T 2 b c m = 0) : (1 : Int32) = b2i (WC f g T b c m) := b2i_t' ⟨Int32.not_lt.mp h0, h1, h2⟩
theorem owes5a {b m : Int32} (h : g 1 b = 5) (h2 : plainI f g T b m ≤ 0) : (0 : Int32) = owesI f g T b m := by
  simp [owesI, h, Int32.not_lt.mpr h2]
theorem owes5b {b m : Int32} (h : g 1 b = 5) (h2 : ¬ plainI f g T b m ≤ 0) : plainI f g T b m + g 2 b = owesI f g T b m := by
  simp [owesI, h, Int32.not_le.mp h2]
theorem passL_n1 {r i : Nat} {m : Int32} (h : ¬ g 6 (nI i) = 1) : passL T (r + 1) i f g m = passL T r (i + 1) f g m := if_neg (fun z => h z.1)
theorem passL_n2 {r i : Nat} {m : Int32} (h : ¬ g 7 (nI i) ≤ f 10) : passL T (r + 1) i f g m = passL T r (i + 1) f g m := if_neg (fun z => h z.2)
theorem passL_p {r i : Nat} {m : Int32} (h1 : g 6 (nI i) = 1) (h2 : g 7 (nI i) ≤ f 10) : passL T (r + 1) i f g m = passL T r (i + 1) (comeF f g T (nI i) (g 7 (nI i))) (comeG g (nI i) (g 7 (nI i))) (m + 1) := if_pos ⟨h1, h2⟩
theorem nobS_n1 {i : Nat} (h : ¬ g 6 (nI i) = 0) : nobS f g T (i + 1) = nobS f g T i := if_neg (fun z => h z.1)
theorem nobS_n2 {i : Nat} (h : WC f g T (nI i) (g 3 (nI i)) (f 10)) : nobS f g T (i + 1) = nobS f g T i := if_neg (fun z => z.2 h)
theorem nobS_p {i : Nat} (h1 : g 6 (nI i) = 0) (h2 : ¬ WC f g T (nI i) (g 3 (nI i)) (f 10)) : nobS f g T (i + 1) = nobS f g T i ||| (1 <<< (nI i &&& 31)) := if_pos ⟨h1, h2⟩
theorem catL_n1 {b : Int32} {r n : Nat} (h : f 10 + nI n + needI f g b < g 4 b + g 5 b) : catL f g T b (r + 1) n = catL f g T b r (n + 1) := if_neg (fun z => Int32.not_le.mpr h z.1)
theorem catL_n2 {b : Int32} {r n : Nat} (h : ¬ WC f g T b (g 3 b) (f 10 + nI n)) : catL f g T b (r + 1) n = catL f g T b r (n + 1) := if_neg (fun z => h z.2)
theorem catL_p {b : Int32} {r n : Nat} (h1 : ¬ f 10 + nI n + needI f g b < g 4 b + g 5 b) (h2 : WC f g T b (g 3 b) (f 10 + nI n)) : catL f g T b (r + 1) n = nI n := if_pos ⟨Int32.not_lt.mp h1, h2⟩
theorem wbi_a {b : Int32} (h : g 6 b = 1) : g 7 b = wbiI f g T b := (if_pos h).symm
theorem wbi_b {b : Int32} (h : ¬ g 6 b = 1) (h2 : ¬ g 6 b = 0) : -1 = wbiI f g T b := by simp [wbiI, h, h2]
theorem wbi_c {b : Int32} (h : ¬ g 6 b = 1) (h2 : ¬ WC f g T b (g 3 b) (f 10)) : -1 = wbiI f g T b := by unfold wbiI; rw [if_neg h, if_neg (fun z => h2 z.2)]
theorem wbi_d {b : Int32} (h : ¬ g 6 b = 1) (h1 : g 6 b = 0) (h2 : WC f g T b (g 3 b) (f 10)) : f 10 + needI f g b = wbiI f g T b := by unfold wbiI; rw [if_neg h, if_pos ⟨h1, h2⟩]
end P7
section Y7
variable {Γ : Gam} {A : Nat → Prop} {L : Nat → Nat} {f : Nat → Int32} {g : Nat → Int32 → Int32} {T : TX} {P : PH → Prop}
theorem c_Yowes (b minute : Int32) (hb : vp_in b 7) (ho : OkR f T) : Ct Γ A yX8_owes wX8_owes 3 0 0 [.ref (L 40), .int b, .int minute] (YI Γ L f g T) (RI fun r h => r = owesI f g T b minute ∧ YI Γ L f g T h) := by
  refine Ct.of (cc := cX8_owes) (nL := 6) (ret := (some .int)) (ls := [some (.ref (L 40)), some (.int b), some (.int minute), none, none, none]) rfl rfl rfl (nle rfl) ?_
  intro K hK hQ
  refine j_iconst (pc := 0) (v := 0) hK dX8_owes_0 (by decide) ?_
  refine j_bipush (pc := 1) (v := 99) hK dX8_owes_1 (by decide) ?_
  refine j_aload_n (pc := 3) hK dX8_owes_3 rfl ?_
  refine j_iconst (pc := 4) (v := 0) hK dX8_owes_4 (by decide) ?_
  refine j_iload_n (pc := 5) hK dX8_owes_5 rfl ?_
  refine j_aload_n (pc := 6) hK dX8_owes_6 rfl ?_
  refine yi_getR (pc := 7) (k := 3) hK (by decide) rfl q1243 rfl dX8_owes_7 ?_
  refine j_iload_n (pc := 10) hK dX8_owes_10 rfl ?_
  refine yi_ald (pc := 11) (k := 3) hK rfl rfl (by first | assumption | exact vp_in_c (by decide)) dX8_owes_11 ?_
  refine j_iload_n (pc := 12) hK dX8_owes_12 rfl ?_
  refine j_callV (pc := 13) hK hQ (c_Yrules 0 b _ minute hb (by decide) ho.1 ho.2.1 ho.2.2.1 ho.2.2.2) cal_X8_rules yi_isC q1399 dX8_owes_13 rfl rfl (nle rfl) (nle rfl) (nle rfl) (nle rfl) (kr_i fun r13 => ?_) kx_i
  refine J.pre fun e13 => ?_
  subst e13
  refine j_mmin (pc := 16) hK hQ q1407 dX8_owes_16 (nle rfl) (nle rfl) (nle rfl) ?_
  refine j_mmax (pc := 19) hK hQ q1386 dX8_owes_19 (nle rfl) (nle rfl) (nle rfl) ?_
  refine j_ist3 (pc := 22) hK dX8_owes_22 (by decide) rfl ?_
  refine j_iconst (pc := 23) (v := 0) hK dX8_owes_23 (by decide) ?_
  refine j_iload_n (pc := 24) hK dX8_owes_24 rfl ?_
  refine j_aload_n (pc := 25) hK dX8_owes_25 rfl ?_
  refine yi_getR (pc := 26) (k := 4) hK (by decide) rfl q1244 rfl dX8_owes_26 ?_
  refine j_iload_n (pc := 29) hK dX8_owes_29 rfl ?_
  refine yi_ald (pc := 30) (k := 4) hK rfl rfl (by first | assumption | exact vp_in_c (by decide)) dX8_owes_30 ?_
  refine j_isub (pc := 31) hK dX8_owes_31 ?_
  refine j_aload_n (pc := 32) hK dX8_owes_32 rfl ?_
  refine yi_getR (pc := 33) (k := 5) hK (by decide) rfl q1245 rfl dX8_owes_33 ?_
  refine j_iload_n (pc := 36) hK dX8_owes_36 rfl ?_
  refine yi_ald (pc := 37) (k := 5) hK rfl rfl (by first | assumption | exact vp_in_c (by decide)) dX8_owes_37 ?_
  refine j_isub (pc := 38) hK dX8_owes_38 ?_
  refine j_mmax (pc := 39) hK hQ q1386 dX8_owes_39 (nle rfl) (nle rfl) (nle rfl) ?_
  refine j_ist4 (pc := 42) hK dX8_owes_42 (by decide) rfl ?_
  refine j_iload (pc := 44) hK dX8_owes_44 rfl ?_
  refine j_bipush (pc := 46) (v := 14) hK dX8_owes_46 (by decide) ?_
  refine j_iadd (pc := 48) hK dX8_owes_48 ?_
  refine j_bipush (pc := 49) (v := 15) hK dX8_owes_49 (by decide) ?_
  refine j_idiv (pc := 51) hK dX8_owes_51 (by decide) ?_
  refine j_iload_n (pc := 52) hK dX8_owes_52 rfl ?_
  refine j_imul (pc := 53) hK dX8_owes_53 ?_
  refine j_ist5 (pc := 54) hK dX8_owes_54 (by decide) rfl ?_
  refine j_aload_n (pc := 56) hK dX8_owes_56 rfl ?_
  refine yi_getR (pc := 57) (k := 1) hK (by decide) rfl q1241 rfl dX8_owes_57 ?_
  refine j_iload_n (pc := 60) hK dX8_owes_60 rfl ?_
  refine yi_ald (pc := 61) (k := 1) hK rfl rfl (by first | assumption | exact vp_in_c (by decide)) dX8_owes_61 ?_
  refine j_table (pc := 62) hK dX8_owes_62 (by decide +kernel) (by decide +kernel) (fun cD62 => ?_) ⟨fun c62 => ?_, fun c62 => ?_, fun c62 => ?_, fun c62 => ?_, trivial⟩
  · have n62_2 := cD62 2 (by decide) (by decide)
    have n62_3 := cD62 3 (by decide) (by decide)
    have n62_4 := cD62 4 (by decide) (by decide)
    have n62_5 := cD62 5 (by decide) (by decide)
    clear cD62
    refine j_iload (pc := 125) hK dX8_owes_125 rfl ?_
    exact j_iret (pc := 127) hK hQ (nle rfl) (nle rfl) dX8_owes_127 (fun h w => ⟨_, rfl, by first | exact owes5a c62 c108 | exact owes5b c62 c108 | (clear hK hQ; simp [owesI, plainI, *]; done), w⟩)
  · replace c62 : _ = (2 : Int32) := c62
    refine j_iload (pc := 92) hK dX8_owes_92 rfl ?_
    refine j_iconst (pc := 94) (v := 2) hK dX8_owes_94 (by decide) ?_
    refine j_idiv (pc := 95) hK dX8_owes_95 (by decide) ?_
    exact j_iret (pc := 96) hK hQ (nle rfl) (nle rfl) dX8_owes_96 (fun h w => ⟨_, rfl, by first | exact owes5a c62 c108 | exact owes5b c62 c108 | (clear hK hQ; simp [owesI, plainI, *]; done), w⟩)
  · replace c62 : _ = (3 : Int32) := c62
    refine j_iconst (pc := 97) (v := 0) hK dX8_owes_97 (by decide) ?_
    exact j_iret (pc := 98) hK hQ (nle rfl) (nle rfl) dX8_owes_98 (fun h w => ⟨_, rfl, by first | exact owes5a c62 c108 | exact owes5b c62 c108 | (clear hK hQ; simp [owesI, plainI, *]; done), w⟩)
  · replace c62 : _ = (4 : Int32) := c62
    refine j_iload (pc := 99) hK dX8_owes_99 rfl ?_
    refine j_iconst (pc := 101) (v := 2) hK dX8_owes_101 (by decide) ?_
    refine j_idiv (pc := 102) hK dX8_owes_102 (by decide) ?_
    refine j_iconst (pc := 103) (v := 2) hK dX8_owes_103 (by decide) ?_
    refine j_iadd (pc := 104) hK dX8_owes_104 ?_
    exact j_iret (pc := 105) hK hQ (nle rfl) (nle rfl) dX8_owes_105 (fun h w => ⟨_, rfl, by first | exact owes5a c62 c108 | exact owes5b c62 c108 | (clear hK hQ; simp [owesI, plainI, *]; done), w⟩)
  · replace c62 : _ = (5 : Int32) := c62
    refine j_iload (pc := 106) hK dX8_owes_106 rfl ?_
    refine j_if_le (pc := 108) (tgt := 123) hK dX8_owes_108 (by decide) (fun c108 => ?_) (fun c108 => ?_)
    · refine j_iconst (pc := 123) (v := 0) hK dX8_owes_123 (by decide) ?_
      exact j_iret (pc := 124) hK hQ (nle rfl) (nle rfl) dX8_owes_124 (fun h w => ⟨_, rfl, by first | exact owes5a c62 c108 | exact owes5b c62 c108 | (clear hK hQ; simp [owesI, plainI, *]; done), w⟩)
    · refine j_iload (pc := 111) hK dX8_owes_111 rfl ?_
      refine j_aload_n (pc := 113) hK dX8_owes_113 rfl ?_
      refine yi_getR (pc := 114) (k := 2) hK (by decide) rfl q1242 rfl dX8_owes_114 ?_
      refine j_iload_n (pc := 117) hK dX8_owes_117 rfl ?_
      refine yi_ald (pc := 118) (k := 2) hK rfl rfl (by first | assumption | exact vp_in_c (by decide)) dX8_owes_118 ?_
      refine j_iadd (pc := 119) hK dX8_owes_119 ?_
      refine j_goto (pc := 120) (tgt := 124) hK dX8_owes_120 (by decide) ?_
      exact j_iret (pc := 124) hK hQ (nle rfl) (nle rfl) dX8_owes_124 (fun h w => ⟨_, rfl, by first | exact owes5a c62 c108 | exact owes5b c62 c108 | (clear hK hQ; simp [owesI, plainI, *]; done), w⟩)
theorem c_Ywould2 (b cell minute : Int32) (hb : vp_in b 7) (ho : OkR f T) : Ct Γ A yX8_would_2 wX8_would_2 3 0 0 [.ref (L 40), .int b, .int cell, .int minute] (YI Γ L f g T) (RI fun r h => r = b2i (WC f g T b cell minute) ∧ YI Γ L f g T h) := by
  refine Ct.of (cc := cX8_would_2) (nL := 4) (ret := (some .boolean)) (ls := [some (.ref (L 40)), some (.int b), some (.int cell), some (.int minute)]) rfl rfl rfl (nle rfl) ?_
  intro K hK hQ
  refine j_iload_n (pc := 0) hK dX8_would_2_0 rfl ?_
  refine j_iconst (pc := 1) (v := 0) hK dX8_would_2_1 (by decide) ?_
  refine j_callS (pc := 2) hK hQ (c_Yfar _ _) cal_X8_far q1395 dX8_would_2_2 rfl rfl (nle rfl) (nle rfl) (nle rfl) (nle rfl) (kr_i fun r2 => ?_) kx_i
  refine J.pre fun e2 => ?_
  subst e2
  refine j_aload_n (pc := 5) hK dX8_would_2_5 rfl ?_
  refine j_iload_n (pc := 6) hK dX8_would_2_6 rfl ?_
  refine j_callV (pc := 7) hK hQ (c_Yhearing _ (by assumption)) cal_X8_hearing yi_isC q1382 dX8_would_2_7 rfl rfl (nle rfl) (nle rfl) (nle rfl) (nle rfl) (kr_i fun r7 => ?_) kx_i
  refine J.pre fun e7 => ?_
  subst e7
  refine j_icmp_gt (pc := 10) (tgt := 39) hK dX8_would_2_10 (by decide) (fun c10 => ?_) (fun c10 => ?_)
  · refine j_iconst (pc := 39) (v := 0) hK dX8_would_2_39 (by decide) ?_
    exact j_bret (pc := 40) hK hQ (nle rfl) (nle rfl) dX8_would_2_40 (fun h w => ⟨by decide, _, rfl, by first | exact WC_0 c10 | exact WC_1 c21 | exact WC_2 c32 | exact WC_3 c10 c21 c32, w⟩)
  · refine j_aload_n (pc := 13) hK dX8_would_2_13 rfl ?_
    refine j_iconst (pc := 14) (v := 1) hK dX8_would_2_14 (by decide) ?_
    refine j_iload_n (pc := 15) hK dX8_would_2_15 rfl ?_
    refine j_iload_n (pc := 16) hK dX8_would_2_16 rfl ?_
    refine j_iload_n (pc := 17) hK dX8_would_2_17 rfl ?_
    refine j_callV (pc := 18) hK hQ (c_Yrules 1 b cell minute hb (by decide) ho.1 ho.2.1 ho.2.2.1 ho.2.2.2) cal_X8_rules yi_isC q1399 dX8_would_2_18 rfl rfl (nle rfl) (nle rfl) (nle rfl) (nle rfl) (kr_i fun r18 => ?_) kx_i
    refine J.pre fun e18 => ?_
    subst e18
    refine j_if_eq (pc := 21) (tgt := 39) hK dX8_would_2_21 (by decide) (fun c21 => ?_) (fun c21 => ?_)
    · refine j_iconst (pc := 39) (v := 0) hK dX8_would_2_39 (by decide) ?_
      exact j_bret (pc := 40) hK hQ (nle rfl) (nle rfl) dX8_would_2_40 (fun h w => ⟨by decide, _, rfl, by first | exact WC_0 c10 | exact WC_1 c21 | exact WC_2 c32 | exact WC_3 c10 c21 c32, w⟩)
    · refine j_aload_n (pc := 24) hK dX8_would_2_24 rfl ?_
      refine j_iconst (pc := 25) (v := 2) hK dX8_would_2_25 (by decide) ?_
      refine j_iload_n (pc := 26) hK dX8_would_2_26 rfl ?_
      refine j_iload_n (pc := 27) hK dX8_would_2_27 rfl ?_
      refine j_iload_n (pc := 28) hK dX8_would_2_28 rfl ?_
      refine j_callV (pc := 29) hK hQ (c_Yrules 2 b cell minute hb (by decide) ho.1 ho.2.1 ho.2.2.1 ho.2.2.2) cal_X8_rules yi_isC q1399 dX8_would_2_29 rfl rfl (nle rfl) (nle rfl) (nle rfl) (nle rfl) (kr_i fun r29 => ?_) kx_i
      refine J.pre fun e29 => ?_
      subst e29
      refine j_if_eq (pc := 32) (tgt := 39) hK dX8_would_2_32 (by decide) (fun c32 => ?_) (fun c32 => ?_)
      · refine j_iconst (pc := 39) (v := 0) hK dX8_would_2_39 (by decide) ?_
        exact j_bret (pc := 40) hK hQ (nle rfl) (nle rfl) dX8_would_2_40 (fun h w => ⟨by decide, _, rfl, by first | exact WC_0 c10 | exact WC_1 c21 | exact WC_2 c32 | exact WC_3 c10 c21 c32, w⟩)
      · refine j_iconst (pc := 35) (v := 1) hK dX8_would_2_35 (by decide) ?_
        refine j_goto (pc := 36) (tgt := 40) hK dX8_would_2_36 (by decide) ?_
        exact j_bret (pc := 40) hK hQ (nle rfl) (nle rfl) dX8_would_2_40 (fun h w => ⟨by decide, _, rfl, by first | exact WC_0 c10 | exact WC_1 c21 | exact WC_2 c32 | exact WC_3 c10 c21 c32, w⟩)
theorem c_Ywould (b : Int32) (hb : vp_in b 7) (ho : OkR f T) : Ct Γ A yX8_would wX8_would 4 0 0 [.ref (L 40), .int b] (YI Γ L f g T) (RI fun r h => r = b2i (WC f g T b (g 3 b) (f 10)) ∧ YI Γ L f g T h) := by
  refine Ct.of (cc := cX8_would) (nL := 2) (ret := (some .boolean)) (ls := [some (.ref (L 40)), some (.int b)]) rfl rfl rfl (nle rfl) ?_
  intro K hK hQ
  refine j_aload_n (pc := 0) hK dX8_would_0 rfl ?_
  refine j_iload_n (pc := 1) hK dX8_would_1 rfl ?_
  refine j_aload_n (pc := 2) hK dX8_would_2 rfl ?_
  refine yi_getR (pc := 3) (k := 3) hK (by decide) rfl q1243 rfl dX8_would_3 ?_
  refine j_iload_n (pc := 6) hK dX8_would_6 rfl ?_
  refine yi_ald (pc := 7) (k := 3) hK rfl rfl (by first | assumption | exact vp_in_c (by decide)) dX8_would_7 ?_
  refine j_aload_n (pc := 8) hK dX8_would_8 rfl ?_
  refine yi_getI (pc := 9) (k := 10) hK (by decide) rfl rfl q1250 rfl dX8_would_9 ?_
  refine j_callV (pc := 12) hK hQ (c_Ywould2 _ _ _ (by assumption) ho) cal_X8_would_2 yi_isC q1391 dX8_would_12 rfl rfl (nle rfl) (nle rfl) (nle rfl) (nle rfl) (kr_i fun r12 => ?_) kx_i
  refine J.pre fun e12 => ?_
  subst e12
  exact j_bret (pc := 15) hK hQ (nle rfl) (nle rfl) dX8_would_15 (fun h w => ⟨by unfold b2i; split <;> simp, _, rfl, rfl, w⟩)
theorem c_Ytold (b what : Int32) (h0 : 0 ≤ f 0) (h7 : f 0 ≤ 7) (ho : OkR f T) : Ct Γ A yX8_told wX8_told 5 0 0 [.ref (L 40), .int b, .int what] (YI Γ L f g T) (RI fun r h => r = oTold f g T b what ∧ YI Γ L f g T h) := by
  refine Ct.of (cc := cX8_told) (nL := 3) (ret := (some .int)) (ls := [some (.ref (L 40)), some (.int b), some (.int what)]) rfl rfl rfl (nle rfl) ?_
  intro K hK hQ
  refine j_aload_n (pc := 0) hK dX8_told_0 rfl ?_
  refine j_iload_n (pc := 1) hK dX8_told_1 rfl ?_
  refine j_callV (pc := 2) hK hQ (c_YisBoat _) cal_X8_isBoat yi_isC q1370 dX8_told_2 rfl rfl (nle rfl) (nle rfl) (nle rfl) (nle rfl) (kr_i fun r2 => ?_) kx_i
  refine J.pre fun e2 => ?_
  subst e2
  refine j_if_eq_b (pc := 5) (tgt := 18) hK dX8_told_5 (by decide) (fun c5 => ?_) (fun c5 => ?_)
  · have hz : oTold f g T b what = -2 := by unfold oTold; first | rw [if_pos c5] | rw [if_neg (fun z => z c5), if_pos c15]
    refine j_bipush (pc := 18) (v := (-2)) hK dX8_told_18 (by decide) ?_
    exact j_iret (pc := 20) hK hQ (nle rfl) (nle rfl) dX8_told_20 (fun h w => ⟨_, rfl, hz.symm, w⟩)
  · refine j_iload_n (pc := 8) hK dX8_told_8 rfl ?_
    refine j_iconst (pc := 9) (v := 0) hK dX8_told_9 (by decide) ?_
    refine j_bipush (pc := 10) (v := 10) hK dX8_told_10 (by decide) ?_
    refine j_callS (pc := 12) hK hQ (c_Ywithin _ _ _) cal_X8_within q1167 dX8_told_12 rfl rfl (nle rfl) (nle rfl) (nle rfl) (nle rfl) (kr_i fun r12 => ?_) kx_i
    refine J.pre fun e12 => ?_
    subst e12
    refine j_if_ne_b (pc := 15) (tgt := 21) hK dX8_told_15 (by decide) (fun c15 => ?_) (fun c15 => ?_)
    · have hb := bo_in c5 h0 h7
      refine j_iload_n (pc := 21) hK dX8_told_21 rfl ?_
      refine j_table (pc := 22) hK dX8_told_22 (by decide +kernel) (by decide +kernel) (fun cD22 => ?_) ⟨fun c22 => ?_, fun c22 => ?_, fun c22 => ?_, fun c22 => ?_, fun c22 => ?_, fun c22 => ?_, fun c22 => ?_, fun c22 => ?_, fun c22 => ?_, fun c22 => ?_, trivial⟩
      · have n22_0 := cD22 0 (by decide) (by decide)
        have n22_1 := cD22 1 (by decide) (by decide)
        have n22_2 := cD22 2 (by decide) (by decide)
        have n22_3 := cD22 3 (by decide) (by decide)
        have n22_4 := cD22 4 (by decide) (by decide)
        have n22_5 := cD22 5 (by decide) (by decide)
        have n22_6 := cD22 6 (by decide) (by decide)
        have n22_7 := cD22 7 (by decide) (by decide)
        have n22_8 := cD22 8 (by decide) (by decide)
        have n22_9 := cD22 9 (by decide) (by decide)
        clear cD22
        refine j_aload_n (pc := 151) hK dX8_told_151 rfl ?_
        refine j_iload_n (pc := 152) hK dX8_told_152 rfl ?_
        refine j_aload_n (pc := 153) hK dX8_told_153 rfl ?_
        refine yi_getI (pc := 154) (k := 10) hK (by decide) rfl rfl q1250 rfl dX8_told_154 ?_
        refine j_callV (pc := 157) hK hQ (c_Yowes _ _ (by assumption) ho) cal_X8_owes yi_isC q1403 dX8_told_157 rfl rfl (nle rfl) (nle rfl) (nle rfl) (nle rfl) (kr_i fun r157 => ?_) kx_i
        refine J.pre fun e157 => ?_
        subst e157
        exact j_iret (pc := 160) hK hQ (nle rfl) (nle rfl) dX8_told_160 (fun h w => ⟨_, rfl, by unfold oTold; rw [if_neg (fun z => z c5), if_neg (fun z => z c15)]; simp [b2i, *], w⟩)
      · replace c22 : _ = (0 : Int32) := c22
        refine j_aload_n (pc := 76) hK dX8_told_76 rfl ?_
        refine yi_getR (pc := 77) (k := 3) hK (by decide) rfl q1243 rfl dX8_told_77 ?_
        refine j_iload_n (pc := 80) hK dX8_told_80 rfl ?_
        refine yi_ald (pc := 81) (k := 3) hK rfl rfl (by first | assumption | exact vp_in_c (by decide)) dX8_told_81 ?_
        exact j_iret (pc := 82) hK hQ (nle rfl) (nle rfl) dX8_told_82 (fun h w => ⟨_, rfl, by unfold oTold; rw [if_neg (fun z => z c5), if_neg (fun z => z c15)]; simp [b2i, *], w⟩)
      · replace c22 : _ = (1 : Int32) := c22
        refine j_aload_n (pc := 83) hK dX8_told_83 rfl ?_
        refine yi_getR (pc := 84) (k := 4) hK (by decide) rfl q1244 rfl dX8_told_84 ?_
        refine j_iload_n (pc := 87) hK dX8_told_87 rfl ?_
        refine yi_ald (pc := 88) (k := 4) hK rfl rfl (by first | assumption | exact vp_in_c (by decide)) dX8_told_88 ?_
        exact j_iret (pc := 89) hK hQ (nle rfl) (nle rfl) dX8_told_89 (fun h w => ⟨_, rfl, by unfold oTold; rw [if_neg (fun z => z c5), if_neg (fun z => z c15)]; simp [b2i, *], w⟩)
      · replace c22 : _ = (2 : Int32) := c22
        refine j_aload_n (pc := 90) hK dX8_told_90 rfl ?_
        refine yi_getR (pc := 91) (k := 5) hK (by decide) rfl q1245 rfl dX8_told_91 ?_
        refine j_iload_n (pc := 94) hK dX8_told_94 rfl ?_
        refine yi_ald (pc := 95) (k := 5) hK rfl rfl (by first | assumption | exact vp_in_c (by decide)) dX8_told_95 ?_
        exact j_iret (pc := 96) hK hQ (nle rfl) (nle rfl) dX8_told_96 (fun h w => ⟨_, rfl, by unfold oTold; rw [if_neg (fun z => z c5), if_neg (fun z => z c15)]; simp [b2i, *], w⟩)
      · replace c22 : _ = (3 : Int32) := c22
        refine j_aload_n (pc := 97) hK dX8_told_97 rfl ?_
        refine yi_getR (pc := 98) (k := 2) hK (by decide) rfl q1242 rfl dX8_told_98 ?_
        refine j_iload_n (pc := 101) hK dX8_told_101 rfl ?_
        refine yi_ald (pc := 102) (k := 2) hK rfl rfl (by first | assumption | exact vp_in_c (by decide)) dX8_told_102 ?_
        exact j_iret (pc := 103) hK hQ (nle rfl) (nle rfl) dX8_told_103 (fun h w => ⟨_, rfl, by unfold oTold; rw [if_neg (fun z => z c5), if_neg (fun z => z c15)]; simp [b2i, *], w⟩)
      · replace c22 : _ = (4 : Int32) := c22
        refine j_aload_n (pc := 104) hK dX8_told_104 rfl ?_
        refine yi_getR (pc := 105) (k := 1) hK (by decide) rfl q1241 rfl dX8_told_105 ?_
        refine j_iload_n (pc := 108) hK dX8_told_108 rfl ?_
        refine yi_ald (pc := 109) (k := 1) hK rfl rfl (by first | assumption | exact vp_in_c (by decide)) dX8_told_109 ?_
        exact j_iret (pc := 110) hK hQ (nle rfl) (nle rfl) dX8_told_110 (fun h w => ⟨_, rfl, by unfold oTold; rw [if_neg (fun z => z c5), if_neg (fun z => z c15)]; simp [b2i, *], w⟩)
      · replace c22 : _ = (5 : Int32) := c22
        refine j_aload_n (pc := 111) hK dX8_told_111 rfl ?_
        refine yi_getR (pc := 112) (k := 6) hK (by decide) rfl q1246 rfl dX8_told_112 ?_
        refine j_iload_n (pc := 115) hK dX8_told_115 rfl ?_
        refine yi_ald (pc := 116) (k := 6) hK rfl rfl (by first | assumption | exact vp_in_c (by decide)) dX8_told_116 ?_
        exact j_iret (pc := 117) hK hQ (nle rfl) (nle rfl) dX8_told_117 (fun h w => ⟨_, rfl, by unfold oTold; rw [if_neg (fun z => z c5), if_neg (fun z => z c15)]; simp [b2i, *], w⟩)
      · replace c22 : _ = (6 : Int32) := c22
        refine j_aload_n (pc := 118) hK dX8_told_118 rfl ?_
        refine yi_getR (pc := 119) (k := 7) hK (by decide) rfl q1247 rfl dX8_told_119 ?_
        refine j_iload_n (pc := 122) hK dX8_told_122 rfl ?_
        refine yi_ald (pc := 123) (k := 7) hK rfl rfl (by first | assumption | exact vp_in_c (by decide)) dX8_told_123 ?_
        exact j_iret (pc := 124) hK hQ (nle rfl) (nle rfl) dX8_told_124 (fun h w => ⟨_, rfl, by unfold oTold; rw [if_neg (fun z => z c5), if_neg (fun z => z c15)]; simp [b2i, *], w⟩)
      · replace c22 : _ = (7 : Int32) := c22
        refine j_aload_n (pc := 125) hK dX8_told_125 rfl ?_
        refine j_iload_n (pc := 126) hK dX8_told_126 rfl ?_
        refine j_callV (pc := 127) hK hQ (c_Yrows _ (by assumption)) cal_X8_rows yi_isC q1378 dX8_told_127 rfl rfl (nle rfl) (nle rfl) (nle rfl) (nle rfl) (kr_i fun r127 => ?_) kx_i
        refine J.pre fun e127 => ?_
        subst e127
        exact j_iret (pc := 130) hK hQ (nle rfl) (nle rfl) dX8_told_130 (fun h w => ⟨_, rfl, by unfold oTold; rw [if_neg (fun z => z c5), if_neg (fun z => z c15)]; simp [b2i, *], w⟩)
      · replace c22 : _ = (8 : Int32) := c22
        refine j_aload_n (pc := 131) hK dX8_told_131 rfl ?_
        refine j_iload_n (pc := 132) hK dX8_told_132 rfl ?_
        refine j_callV (pc := 133) hK hQ (c_Yhearing _ (by assumption)) cal_X8_hearing yi_isC q1382 dX8_told_133 rfl rfl (nle rfl) (nle rfl) (nle rfl) (nle rfl) (kr_i fun r133 => ?_) kx_i
        refine J.pre fun e133 => ?_
        subst e133
        exact j_iret (pc := 136) hK hQ (nle rfl) (nle rfl) dX8_told_136 (fun h w => ⟨_, rfl, by unfold oTold; rw [if_neg (fun z => z c5), if_neg (fun z => z c15)]; simp [b2i, *], w⟩)
      · replace c22 : _ = (9 : Int32) := c22
        refine j_aload_n (pc := 137) hK dX8_told_137 rfl ?_
        refine j_iload_n (pc := 138) hK dX8_told_138 rfl ?_
        refine j_callV (pc := 139) hK hQ (c_Ywould _ (by assumption) ho) cal_X8_would yi_isC q1387 dX8_told_139 rfl rfl (nle rfl) (nle rfl) (nle rfl) (nle rfl) (kr_i fun r139 => ?_) kx_i
        refine J.pre fun e139 => ?_
        subst e139
        refine j_if_eq_b (pc := 142) (tgt := 149) hK dX8_told_142 (by decide) (fun c142 => ?_) (fun c142 => ?_)
        · refine j_iconst (pc := 149) (v := 0) hK dX8_told_149 (by decide) ?_
          exact j_iret (pc := 150) hK hQ (nle rfl) (nle rfl) dX8_told_150 (fun h w => ⟨_, rfl, by unfold oTold; rw [if_neg (fun z => z c5), if_neg (fun z => z c15)]; simp [b2i, *], w⟩)
        · refine j_iconst (pc := 145) (v := 1) hK dX8_told_145 (by decide) ?_
          refine j_goto (pc := 146) (tgt := 150) hK dX8_told_146 (by decide) ?_
          exact j_iret (pc := 150) hK hQ (nle rfl) (nle rfl) dX8_told_150 (fun h w => ⟨_, rfl, by unfold oTold; rw [if_neg (fun z => z c5), if_neg (fun z => z c15)]; simp [b2i, *], w⟩)
    · have hz : oTold f g T b what = -2 := by unfold oTold; first | rw [if_pos c5] | rw [if_neg (fun z => z c5), if_pos c15]
      refine j_bipush (pc := 18) (v := (-2)) hK dX8_told_18 (by decide) ?_
      exact j_iret (pc := 20) hK hQ (nle rfl) (nle rfl) dX8_told_20 (fun h w => ⟨_, rfl, hz.symm, w⟩)
theorem c_Ycall (b : Int32) (h0 : 0 ≤ f 0) (h7 : f 0 ≤ 7) (ho : OkR f T) : Ct Γ A yX8_call wX8_call 5 0 0 [.ref (L 40), .int b] (YI Γ L f g T) (RI (YO Γ L T (oCall f g T b))) := by
  refine Ct.of (cc := cX8_call) (nL := 2) (ret := (some .int)) (ls := [some (.ref (L 40)), some (.int b)]) rfl rfl rfl (nle rfl) ?_
  intro K hK hQ
  refine j_aload_n (pc := 0) hK dX8_call_0 rfl ?_
  refine j_iload_n (pc := 1) hK dX8_call_1 rfl ?_
  refine j_callV (pc := 2) hK hQ (c_YisBoat _) cal_X8_isBoat yi_isC q1370 dX8_call_2 rfl rfl (nle rfl) (nle rfl) (nle rfl) (nle rfl) (kr_i fun r2 => ?_) kx_i
  refine J.pre fun e2 => ?_
  subst e2
  refine j_if_ne_b (pc := 5) (tgt := 11) hK dX8_call_5 (by decide) (fun c5 => ?_) (fun c5 => ?_)
  · have hb := bo_in c5 h0 h7
    refine j_aload_n (pc := 11) hK dX8_call_11 rfl ?_
    refine yi_getR (pc := 12) (k := 6) hK (by decide) rfl q1246 rfl dX8_call_12 ?_
    refine j_iload_n (pc := 15) hK dX8_call_15 rfl ?_
    refine yi_ald (pc := 16) (k := 6) hK rfl rfl (by first | assumption | exact vp_in_c (by decide)) dX8_call_16 ?_
    refine j_if_eq (pc := 17) (tgt := 23) hK dX8_call_17 (by decide) (fun c17 => ?_) (fun c17 => ?_)
    · refine j_aload_n (pc := 23) hK dX8_call_23 rfl ?_
      refine j_iload_n (pc := 24) hK dX8_call_24 rfl ?_
      refine j_callV (pc := 25) hK hQ (c_Ywould _ (by assumption) ho) cal_X8_would yi_isC q1387 dX8_call_25 rfl rfl (nle rfl) (nle rfl) (nle rfl) (nle rfl) (kr_i fun r25 => ?_) kx_i
      refine J.pre fun e25 => ?_
      subst e25
      refine j_if_ne_b (pc := 28) (tgt := 33) hK dX8_call_28 (by decide) (fun c28 => ?_) (fun c28 => ?_)
      · refine j_aload_n (pc := 33) hK dX8_call_33 rfl ?_
        refine yi_getR (pc := 34) (k := 6) hK (by decide) rfl q1246 rfl dX8_call_34 ?_
        refine j_iload_n (pc := 37) hK dX8_call_37 rfl ?_
        refine j_iconst (pc := 38) (v := 1) hK dX8_call_38 (by decide) ?_
        refine yi_ast (pc := 39) (k := 6) hK rfl rfl (by decide) (by decide) (by first | assumption | exact vp_in_c (by decide)) dX8_call_39 ?_
        refine j_aload_n (pc := 40) hK dX8_call_40 rfl ?_
        refine yi_getR (pc := 41) (k := 7) hK (by decide) rfl q1247 rfl dX8_call_41 ?_
        refine j_iload_n (pc := 44) hK dX8_call_44 rfl ?_
        refine j_aload_n (pc := 45) hK dX8_call_45 rfl ?_
        refine yi_getI (pc := 46) (k := 10) hK (by decide) rfl rfl q1250 rfl dX8_call_46 ?_
        refine j_aload_n (pc := 49) hK dX8_call_49 rfl ?_
        refine j_iload_n (pc := 50) hK dX8_call_50 rfl ?_
        refine j_callV (pc := 51) hK hQ (c_Yneeds _ (by assumption)) cal_X8_needs yi_isC q1418 dX8_call_51 rfl rfl (nle rfl) (nle rfl) (nle rfl) (nle rfl) (kr_i fun r51 => ?_) kx_i
        refine J.pre fun e51 => ?_
        subst e51
        refine j_iadd (pc := 54) hK dX8_call_54 ?_
        refine yi_ast (pc := 55) (k := 7) hK rfl rfl (by decide) (by decide) (by first | assumption | exact vp_in_c (by decide)) dX8_call_55 ?_
        refine j_iconst (pc := 56) (v := 1) hK dX8_call_56 (by decide) ?_
        exact j_iret (pc := 57) hK hQ (nle rfl) (nle rfl) dX8_call_57 (fun h w => ⟨_, rfl, _, _, by unfold oCall; first | rw [if_pos c5] | (rw [if_neg (fun z => z c5)]; first | rw [if_pos c17] | (rw [if_neg (fun z => z c17)]; first | rw [if_pos c28] | (rw [if_neg (fun z => z c28)]; rfl))), w⟩)
      · refine j_iconst (pc := 31) (v := 0) hK dX8_call_31 (by decide) ?_
        exact j_iret (pc := 32) hK hQ (nle rfl) (nle rfl) dX8_call_32 (fun h w => ⟨_, rfl, _, _, by unfold oCall; first | rw [if_pos c5] | (rw [if_neg (fun z => z c5)]; first | rw [if_pos c17] | (rw [if_neg (fun z => z c17)]; first | rw [if_pos c28] | (rw [if_neg (fun z => z c28)]; rfl))), w⟩)
    · refine j_bipush (pc := 20) (v := (-3)) hK dX8_call_20 (by decide) ?_
      exact j_iret (pc := 22) hK hQ (nle rfl) (nle rfl) dX8_call_22 (fun h w => ⟨_, rfl, _, _, by unfold oCall; first | rw [if_pos c5] | (rw [if_neg (fun z => z c5)]; first | rw [if_pos c17] | (rw [if_neg (fun z => z c17)]; first | rw [if_pos c28] | (rw [if_neg (fun z => z c28)]; rfl))), w⟩)
  · refine j_bipush (pc := 8) (v := (-2)) hK dX8_call_8 (by decide) ?_
    exact j_iret (pc := 10) hK hQ (nle rfl) (nle rfl) dX8_call_10 (fun h w => ⟨_, rfl, _, _, by unfold oCall; first | rw [if_pos c5] | (rw [if_neg (fun z => z c5)]; first | rw [if_pos c17] | (rw [if_neg (fun z => z c17)]; first | rw [if_pos c28] | (rw [if_neg (fun z => z c28)]; rfl))), w⟩)
theorem c_YcomesIn (b a : Int32) (hb : vp_in b 7) (ho : OkR f T) : Ct Γ A yX8_comesIn wX8_comesIn 4 0 0 [.ref (L 40), .int b, .int a] (YI Γ L f g T) (RV (YI Γ L (comeF f g T b a) (comeG g b a) T)) := by
  refine Ct.of (cc := cX8_comesIn) (nL := 3) (ret := none) (ls := [some (.ref (L 40)), some (.int b), some (.int a)]) rfl rfl rfl (nle rfl) ?_
  intro K hK hQ
  refine j_aload_n (pc := 0) hK dX8_comesIn_0 rfl ?_
  refine yi_getR (pc := 1) (k := 6) hK (by decide) rfl q1246 rfl dX8_comesIn_1 ?_
  refine j_iload_n (pc := 4) hK dX8_comesIn_4 rfl ?_
  refine j_iconst (pc := 5) (v := 2) hK dX8_comesIn_5 (by decide) ?_
  refine yi_ast (pc := 6) (k := 6) hK rfl rfl (by decide) (by decide) (by first | assumption | exact vp_in_c (by decide)) dX8_comesIn_6 ?_
  refine j_aload_n (pc := 7) hK dX8_comesIn_7 rfl ?_
  refine yi_getR (pc := 8) (k := 7) hK (by decide) rfl q1247 rfl dX8_comesIn_8 ?_
  refine j_iload_n (pc := 11) hK dX8_comesIn_11 rfl ?_
  refine j_iload_n (pc := 12) hK dX8_comesIn_12 rfl ?_
  refine yi_ast (pc := 13) (k := 7) hK rfl rfl (by decide) (by decide) (by first | assumption | exact vp_in_c (by decide)) dX8_comesIn_13 ?_
  refine j_aload_n (pc := 14) hK dX8_comesIn_14 rfl ?_
  refine j_dup (pc := 15) hK dX8_comesIn_15 rfl ?_
  refine yi_getI (pc := 16) (k := 14) hK (by decide) rfl rfl q1254 rfl dX8_comesIn_16 ?_
  refine j_aload_n (pc := 19) hK dX8_comesIn_19 rfl ?_
  refine j_iload_n (pc := 20) hK dX8_comesIn_20 rfl ?_
  refine j_iload_n (pc := 21) hK dX8_comesIn_21 rfl ?_
  refine j_callV (pc := 22) hK hQ (c_Yowes _ _ (by assumption) ho) cal_X8_owes yi_isC q1403 dX8_comesIn_22 rfl rfl (nle rfl) (nle rfl) (nle rfl) (nle rfl) (kr_i fun r22 => ?_) kx_i
  refine J.pre fun e22 => ?_
  subst e22
  refine j_iadd (pc := 25) hK dX8_comesIn_25 ?_
  refine yi_putI (pc := 26) (k := 14) hK (by decide) rfl rfl (by decide) q1254 rfl rfl rfl rfl dX8_comesIn_26 ?_
  refine j_aload_n (pc := 29) hK dX8_comesIn_29 rfl ?_
  refine j_iconst (pc := 30) (v := 0) hK dX8_comesIn_30 (by decide) ?_
  refine j_aload_n (pc := 31) hK dX8_comesIn_31 rfl ?_
  refine yi_getI (pc := 32) (k := 13) hK (by decide) rfl rfl q1253 rfl dX8_comesIn_32 ?_
  refine j_iconst (pc := 35) (v := 1) hK dX8_comesIn_35 (by decide) ?_
  refine j_isub (pc := 36) hK dX8_comesIn_36 ?_
  refine j_mmax (pc := 37) hK hQ q1386 dX8_comesIn_37 (nle rfl) (nle rfl) (nle rfl) ?_
  refine yi_putI (pc := 40) (k := 13) hK (by decide) rfl rfl (by decide) q1253 rfl rfl rfl rfl dX8_comesIn_40 ?_
  exact j_vret (pc := 43) hK hQ (nle rfl) (nle rfl) dX8_comesIn_43 (fun h w => ⟨rfl, w⟩)
theorem c_Ypasses (n : Int32) {nb : Nat} (hn : nb ≤ 7) (e0 : f 0 = nI nb) (ho : OkR f T) : Ct Γ A yX8_passes wX8_passes 5 0 0 [.ref (L 40), .int n] (YI Γ L f g T) (RI (YO Γ L T (oPass f g T nb n))) := by
  refine Ct.of (cc := cX8_passes) (nL := 4) (ret := (some .int)) (ls := [some (.ref (L 40)), some (.int n), none, none]) rfl rfl rfl (nle rfl) ?_
  intro K hK hQ
  have loop : ∀ (r i : Nat) (f1 : Nat → Int32) (g1 : Nat → Int32 → Int32) (m : Int32), i + r = nb → f1 0 = nI nb → OkR f1 T → passL T r i f1 g1 m = oPass f g T nb n → J Γ A K 20 [some (.ref (L 40)), some (.int n), some (.int m), some (.int (nI i))] [] (YI Γ L f1 g1 T) 0 0 := by
    intro r
    induction r with
    | zero =>
      intro i f1 g1 m hi e1 ho hp
      refine j_iload_n (pc := 20) hK dX8_passes_20 rfl ?_
      refine j_aload_n (pc := 21) hK dX8_passes_21 rfl ?_
      refine yi_getI (pc := 22) (k := 0) hK (by decide) rfl rfl q1240 rfl dX8_passes_22 ?_
      refine j_icmp_ge (pc := 25) (tgt := 74) hK dX8_passes_25 (by decide) (fun c25 => ?_) (fun c25 => absurd (by rw [e1]; exact nI_le (by omega) (by omega)) c25)
      refine j_iload_n (pc := 74) hK dX8_passes_74 rfl ?_
      exact j_iret (pc := 75) hK hQ (nle rfl) (nle rfl) dX8_passes_75 (fun h w => ⟨_, rfl, _, _, hp.symm, w⟩)
    | succ r ih =>
      intro i f1 g1 m hi e1 ho hp
      have hb : vp_in (nI i) 7 := vp_in_nI (by omega) (by decide)
      refine j_iload_n (pc := 20) hK dX8_passes_20 rfl ?_
      refine j_aload_n (pc := 21) hK dX8_passes_21 rfl ?_
      refine yi_getI (pc := 22) (k := 0) hK (by decide) rfl rfl q1240 rfl dX8_passes_22 ?_
      refine j_icmp_ge (pc := 25) (tgt := 74) hK dX8_passes_25 (by decide) (fun c25 => absurd c25 (by rw [e1]; exact nI_ge (by omega) (by omega))) (fun c25 => ?_)
      refine j_aload_n (pc := 28) hK dX8_passes_28 rfl ?_
      refine yi_getR (pc := 29) (k := 6) hK (by decide) rfl q1246 rfl dX8_passes_29 ?_
      refine j_iload_n (pc := 32) hK dX8_passes_32 rfl ?_
      refine yi_ald (pc := 33) (k := 6) hK rfl rfl (by first | assumption | exact vp_in_c (by decide)) dX8_passes_33 ?_
      refine j_iconst (pc := 34) (v := 1) hK dX8_passes_34 (by decide) ?_
      refine j_icmp_ne (pc := 35) (tgt := 68) hK dX8_passes_35 (by decide) (fun c35 => ?_) (fun c35 => ?_)
      · have hp' := hp
        first | rw [passL_n1 c35] at hp' | rw [passL_n2 c48] at hp' | rw [passL_p c35 c48] at hp'
        refine j_iinc3 (pc := 68) (v := 1) hK dX8_passes_68 (by decide) rfl (by decide) ?_
        refine j_goto (pc := 71) (tgt := 20) hK dX8_passes_71 (by decide) ?_
        rw [nI_1]
        first | exact ih (i + 1) _ _ _ (by omega) e1 ho hp' | exact ih (i + 1) _ _ _ (by omega) e1 ho.come hp'
      · refine j_aload_n (pc := 38) hK dX8_passes_38 rfl ?_
        refine yi_getR (pc := 39) (k := 7) hK (by decide) rfl q1247 rfl dX8_passes_39 ?_
        refine j_iload_n (pc := 42) hK dX8_passes_42 rfl ?_
        refine yi_ald (pc := 43) (k := 7) hK rfl rfl (by first | assumption | exact vp_in_c (by decide)) dX8_passes_43 ?_
        refine j_aload_n (pc := 44) hK dX8_passes_44 rfl ?_
        refine yi_getI (pc := 45) (k := 10) hK (by decide) rfl rfl q1250 rfl dX8_passes_45 ?_
        refine j_icmp_le (pc := 48) (tgt := 54) hK dX8_passes_48 (by decide) (fun c48 => ?_) (fun c48 => ?_)
        · refine j_aload_n (pc := 54) hK dX8_passes_54 rfl ?_
          refine j_iload_n (pc := 55) hK dX8_passes_55 rfl ?_
          refine j_aload_n (pc := 56) hK dX8_passes_56 rfl ?_
          refine yi_getR (pc := 57) (k := 7) hK (by decide) rfl q1247 rfl dX8_passes_57 ?_
          refine j_iload_n (pc := 60) hK dX8_passes_60 rfl ?_
          refine yi_ald (pc := 61) (k := 7) hK rfl rfl (by first | assumption | exact vp_in_c (by decide)) dX8_passes_61 ?_
          refine j_callV (pc := 62) hK hQ (c_YcomesIn _ _ (by assumption) ho) cal_X8_comesIn yi_isC q1430 dX8_passes_62 rfl rfl (nle rfl) (nle rfl) (nle rfl) (nle rfl) (kr_v ?_) kx_v
          refine J.at (pc2 := 65) rfl ?_
          refine j_iinc2 (pc := 65) (v := 1) hK dX8_passes_65 (by decide) rfl (by decide) ?_
          have hp' := hp
          first | rw [passL_n1 c35] at hp' | rw [passL_n2 c48] at hp' | rw [passL_p c35 c48] at hp'
          refine j_iinc3 (pc := 68) (v := 1) hK dX8_passes_68 (by decide) rfl (by decide) ?_
          refine j_goto (pc := 71) (tgt := 20) hK dX8_passes_71 (by decide) ?_
          rw [nI_1]
          first | exact ih (i + 1) _ _ _ (by omega) e1 ho hp' | exact ih (i + 1) _ _ _ (by omega) e1 ho.come hp'
        · refine j_goto (pc := 51) (tgt := 68) hK dX8_passes_51 (by decide) ?_
          have hp' := hp
          first | rw [passL_n1 c35] at hp' | rw [passL_n2 c48] at hp' | rw [passL_p c35 c48] at hp'
          refine j_iinc3 (pc := 68) (v := 1) hK dX8_passes_68 (by decide) rfl (by decide) ?_
          refine j_goto (pc := 71) (tgt := 20) hK dX8_passes_71 (by decide) ?_
          rw [nI_1]
          first | exact ih (i + 1) _ _ _ (by omega) e1 ho hp' | exact ih (i + 1) _ _ _ (by omega) e1 ho.come hp'
  refine j_aload_n (pc := 0) hK dX8_passes_0 rfl ?_
  refine j_sipush (pc := 1) (v := 9999) hK dX8_passes_1 (by decide) ?_
  refine j_aload_n (pc := 4) hK dX8_passes_4 rfl ?_
  refine yi_getI (pc := 5) (k := 10) hK (by decide) rfl rfl q1250 rfl dX8_passes_5 ?_
  refine j_iload_n (pc := 8) hK dX8_passes_8 rfl ?_
  refine j_iadd (pc := 9) hK dX8_passes_9 ?_
  refine j_mmin (pc := 10) hK hQ q1407 dX8_passes_10 (nle rfl) (nle rfl) (nle rfl) ?_
  refine yi_putI (pc := 13) (k := 10) hK (by decide) rfl rfl (by decide) q1250 rfl rfl rfl rfl dX8_passes_13 ?_
  refine j_iconst (pc := 16) (v := 0) hK dX8_passes_16 (by decide) ?_
  refine j_ist2 (pc := 17) hK dX8_passes_17 (by decide) rfl ?_
  refine j_iconst (pc := 18) (v := 0) hK dX8_passes_18 (by decide) ?_
  refine j_ist3 (pc := 19) hK dX8_passes_19 (by decide) rfl ?_
  exact loop nb 0 _ _ _ (by omega) e0 (ho.upd _ (by decide) (by decide)) rfl
theorem c_Ytime (n : Int32) {nb : Nat} (hn : nb ≤ 7) (e0 : f 0 = nI nb) (ho : OkR f T) : Ct Γ A yX8_time wX8_time 6 0 0 [.ref (L 40), .int n] (YI Γ L f g T) (RI (YO Γ L T (oTime f g T nb n))) := by
  refine Ct.of (cc := cX8_time) (nL := 2) (ret := (some .int)) (ls := [some (.ref (L 40)), some (.int n)]) rfl rfl rfl (nle rfl) ?_
  intro K hK hQ
  refine j_iload_n (pc := 0) hK dX8_time_0 rfl ?_
  refine j_iconst (pc := 1) (v := 0) hK dX8_time_1 (by decide) ?_
  refine j_sipush (pc := 2) (v := 240) hK dX8_time_2 (by decide) ?_
  refine j_callS (pc := 5) hK hQ (c_Ywithin _ _ _) cal_X8_within q1167 dX8_time_5 rfl rfl (nle rfl) (nle rfl) (nle rfl) (nle rfl) (kr_i fun r5 => ?_) kx_i
  refine J.pre fun e5 => ?_
  subst e5
  refine j_if_eq_b (pc := 8) (tgt := 19) hK dX8_time_8 (by decide) (fun c8 => ?_) (fun c8 => ?_)
  · refine j_bipush (pc := 19) (v := (-2)) hK dX8_time_19 (by decide) ?_
    exact j_iret (pc := 21) hK hQ (nle rfl) (nle rfl) dX8_time_21 (fun h w => ⟨_, rfl, _, _, by unfold oTime; first | rw [if_pos c8] | (rw [if_neg (fun z => z c8)]; exact e13), w⟩)
  · refine j_aload_n (pc := 11) hK dX8_time_11 rfl ?_
    refine j_iload_n (pc := 12) hK dX8_time_12 rfl ?_
    refine j_callV (pc := 13) hK hQ (c_Ypasses _ hn e0 ho) cal_X8_passes yi_isC q1426 dX8_time_13 rfl rfl (nle rfl) (nle rfl) (nle rfl) (nle rfl) (kr_i fun r13 => ?_) kx_i
    refine J.ex fun f2 => J.ex fun g2 => J.pre fun e13 => ?_
    refine j_goto (pc := 16) (tgt := 21) hK dX8_time_16 (by decide) ?_
    exact j_iret (pc := 21) hK hQ (nle rfl) (nle rfl) dX8_time_21 (fun h w => ⟨_, rfl, _, _, by unfold oTime; first | rw [if_pos c8] | (rw [if_neg (fun z => z c8)]; exact e13), w⟩)
theorem c_Ynobody {nb : Nat} (hn : nb ≤ 7) (e0 : f 0 = nI nb) (ho : OkR f T) : Ct Γ A yX8_nobody wX8_nobody 5 0 0 [.ref (L 40)] (YI Γ L f g T) (RI fun r h => r = nobS f g T nb ∧ YI Γ L f g T h) := by
  refine Ct.of (cc := cX8_nobody) (nL := 3) (ret := (some .int)) (ls := [some (.ref (L 40)), none, none]) rfl rfl rfl (nle rfl) ?_
  intro K hK hQ
  have loop : ∀ (n i : Nat), i + n = nb → J Γ A K 4 [some (.ref (L 40)), some (.int (nobS f g T i)), some (.int (nI i))] [] (YI Γ L f g T) 0 0 := by
    intro n
    induction n with
    | zero =>
      intro i hi
      refine j_iload_n (pc := 4) hK dX8_nobody_4 rfl ?_
      refine j_aload_n (pc := 5) hK dX8_nobody_5 rfl ?_
      refine yi_getI (pc := 6) (k := 0) hK (by decide) rfl rfl q1240 rfl dX8_nobody_6 ?_
      refine j_icmp_ge (pc := 9) (tgt := 41) hK dX8_nobody_9 (by decide) (fun c9 => ?_) (fun c9 => absurd (by rw [e0]; exact nI_le (by omega) (by omega)) c9)
      refine j_iload_n (pc := 41) hK dX8_nobody_41 rfl ?_
      exact j_iret (pc := 42) hK hQ (nle rfl) (nle rfl) dX8_nobody_42 (fun h w => ⟨_, rfl, by rw [show i = nb by omega], w⟩)
    | succ n ih =>
      intro i hi
      have hb : vp_in (nI i) 7 := vp_in_nI (by omega) (by decide)
      refine j_iload_n (pc := 4) hK dX8_nobody_4 rfl ?_
      refine j_aload_n (pc := 5) hK dX8_nobody_5 rfl ?_
      refine yi_getI (pc := 6) (k := 0) hK (by decide) rfl rfl q1240 rfl dX8_nobody_6 ?_
      refine j_icmp_ge (pc := 9) (tgt := 41) hK dX8_nobody_9 (by decide) (fun c9 => absurd c9 (by rw [e0]; exact nI_ge (by omega) (by omega))) (fun c9 => ?_)
      refine j_aload_n (pc := 12) hK dX8_nobody_12 rfl ?_
      refine yi_getR (pc := 13) (k := 6) hK (by decide) rfl q1246 rfl dX8_nobody_13 ?_
      refine j_iload_n (pc := 16) hK dX8_nobody_16 rfl ?_
      refine yi_ald (pc := 17) (k := 6) hK rfl rfl (by first | assumption | exact vp_in_c (by decide)) dX8_nobody_17 ?_
      refine j_if_ne (pc := 18) (tgt := 35) hK dX8_nobody_18 (by decide) (fun c18 => ?_) (fun c18 => ?_)
      · refine j_iinc2 (pc := 35) (v := 1) hK dX8_nobody_35 (by decide) rfl (by decide) ?_
        refine j_goto (pc := 38) (tgt := 4) hK dX8_nobody_38 (by decide) ?_
        rw [nI_1]
        first | rw [← nobS_n1 c18] | rw [← nobS_n2 c26] | rw [← nobS_p c18 c26]
        exact ih (i + 1) (by omega)
      · refine j_aload_n (pc := 21) hK dX8_nobody_21 rfl ?_
        refine j_iload_n (pc := 22) hK dX8_nobody_22 rfl ?_
        refine j_callV (pc := 23) hK hQ (c_Ywould _ (by assumption) ho) cal_X8_would yi_isC q1387 dX8_nobody_23 rfl rfl (nle rfl) (nle rfl) (nle rfl) (nle rfl) (kr_i fun r23 => ?_) kx_i
        refine J.pre fun e23 => ?_
        subst e23
        refine j_if_ne_b (pc := 26) (tgt := 35) hK dX8_nobody_26 (by decide) (fun c26 => ?_) (fun c26 => ?_)
        · refine j_iinc2 (pc := 35) (v := 1) hK dX8_nobody_35 (by decide) rfl (by decide) ?_
          refine j_goto (pc := 38) (tgt := 4) hK dX8_nobody_38 (by decide) ?_
          rw [nI_1]
          first | rw [← nobS_n1 c18] | rw [← nobS_n2 c26] | rw [← nobS_p c18 c26]
          exact ih (i + 1) (by omega)
        · refine j_iload_n (pc := 29) hK dX8_nobody_29 rfl ?_
          refine j_iconst (pc := 30) (v := 1) hK dX8_nobody_30 (by decide) ?_
          refine j_iload_n (pc := 31) hK dX8_nobody_31 rfl ?_
          refine j_ishl (pc := 32) hK dX8_nobody_32 ?_
          refine j_ior (pc := 33) hK dX8_nobody_33 ?_
          refine j_ist1 (pc := 34) hK dX8_nobody_34 (by decide) rfl ?_
          refine j_iinc2 (pc := 35) (v := 1) hK dX8_nobody_35 (by decide) rfl (by decide) ?_
          refine j_goto (pc := 38) (tgt := 4) hK dX8_nobody_38 (by decide) ?_
          rw [nI_1]
          first | rw [← nobS_n1 c18] | rw [← nobS_n2 c26] | rw [← nobS_p c18 c26]
          exact ih (i + 1) (by omega)
  refine j_iconst (pc := 0) (v := 0) hK dX8_nobody_0 (by decide) ?_
  refine j_ist1 (pc := 1) hK dX8_nobody_1 (by decide) rfl ?_
  refine j_iconst (pc := 2) (v := 0) hK dX8_nobody_2 (by decide) ?_
  refine j_ist2 (pc := 3) hK dX8_nobody_3 (by decide) rfl ?_
  exact loop nb 0 (by omega)
theorem c_YcallAt (b : Int32) (h0 : 0 ≤ f 0) (h7 : f 0 ≤ 7) (ho : OkR f T) : Ct Γ A yX8_callAt wX8_callAt 5 0 0 [.ref (L 40), .int b] (YI Γ L f g T) (RI fun r h => r = oCallAt f g T b ∧ YI Γ L f g T h) := by
  refine Ct.of (cc := cX8_callAt) (nL := 3) (ret := (some .int)) (ls := [some (.ref (L 40)), some (.int b), none]) rfl rfl rfl (nle rfl) ?_
  intro K hK hQ
  have loop : ∀ (hb : vp_in b 7) (r n : Nat), n + r = 241 → catL f g T b r n = oCallAt f g T b → J Γ A K 25 [some (.ref (L 40)), some (.int b), some (.int (nI n))] [] (YI Γ L f g T) 0 0 := by
    intro hb r
    induction r with
    | zero =>
      intro n hi hp
      have : n = 241 := by omega
      subst this
      refine j_iload_n (pc := 25) hK dX8_callAt_25 rfl ?_
      refine j_sipush (pc := 26) (v := 241) hK dX8_callAt_26 (by decide) ?_
      refine j_icmp_ge (pc := 29) (tgt := 88) hK dX8_callAt_29 (by decide) (fun c29 => ?_) (fun c29 => absurd (by decide) c29)
      refine j_iconst (pc := 88) (v := (-1)) hK dX8_callAt_88 (by decide) ?_
      exact j_iret (pc := 89) hK hQ (nle rfl) (nle rfl) dX8_callAt_89 (fun h w => ⟨_, rfl, hp, w⟩)
    | succ r ih =>
      intro n hi hp
      refine j_iload_n (pc := 25) hK dX8_callAt_25 rfl ?_
      refine j_sipush (pc := 26) (v := 241) hK dX8_callAt_26 (by decide) ?_
      refine j_icmp_ge (pc := 29) (tgt := 88) hK dX8_callAt_29 (by decide) (fun c29 => absurd c29 (by rw [show (241 : Int32) = nI 241 by decide]; exact nI_ge (by omega) (by decide))) (fun c29 => ?_)
      refine j_aload_n (pc := 32) hK dX8_callAt_32 rfl ?_
      refine yi_getI (pc := 33) (k := 10) hK (by decide) rfl rfl q1250 rfl dX8_callAt_33 ?_
      refine j_iload_n (pc := 36) hK dX8_callAt_36 rfl ?_
      refine j_iadd (pc := 37) hK dX8_callAt_37 ?_
      refine j_aload_n (pc := 38) hK dX8_callAt_38 rfl ?_
      refine j_iload_n (pc := 39) hK dX8_callAt_39 rfl ?_
      refine j_callV (pc := 40) hK hQ (c_Yneeds _ (by assumption)) cal_X8_needs yi_isC q1418 dX8_callAt_40 rfl rfl (nle rfl) (nle rfl) (nle rfl) (nle rfl) (kr_i fun r40 => ?_) kx_i
      refine J.pre fun e40 => ?_
      subst e40
      refine j_iadd (pc := 43) hK dX8_callAt_43 ?_
      refine j_aload_n (pc := 44) hK dX8_callAt_44 rfl ?_
      refine yi_getR (pc := 45) (k := 4) hK (by decide) rfl q1244 rfl dX8_callAt_45 ?_
      refine j_iload_n (pc := 48) hK dX8_callAt_48 rfl ?_
      refine yi_ald (pc := 49) (k := 4) hK rfl rfl (by first | assumption | exact vp_in_c (by decide)) dX8_callAt_49 ?_
      refine j_aload_n (pc := 50) hK dX8_callAt_50 rfl ?_
      refine yi_getR (pc := 51) (k := 5) hK (by decide) rfl q1245 rfl dX8_callAt_51 ?_
      refine j_iload_n (pc := 54) hK dX8_callAt_54 rfl ?_
      refine yi_ald (pc := 55) (k := 5) hK rfl rfl (by first | assumption | exact vp_in_c (by decide)) dX8_callAt_55 ?_
      refine j_iadd (pc := 56) hK dX8_callAt_56 ?_
      refine j_icmp_lt (pc := 57) (tgt := 82) hK dX8_callAt_57 (by decide) (fun c57 => ?_) (fun c57 => ?_)
      · refine j_iinc2 (pc := 82) (v := 1) hK dX8_callAt_82 (by decide) rfl (by decide) ?_
        refine j_goto (pc := 85) (tgt := 25) hK dX8_callAt_85 (by decide) ?_
        rw [nI_1]
        exact ih (n + 1) (by omega) (by rw [← hp]; first | rw [catL_n1 c57] | rw [catL_n2 c77])
      · refine j_aload_n (pc := 60) hK dX8_callAt_60 rfl ?_
        refine j_iload_n (pc := 61) hK dX8_callAt_61 rfl ?_
        refine j_aload_n (pc := 62) hK dX8_callAt_62 rfl ?_
        refine yi_getR (pc := 63) (k := 3) hK (by decide) rfl q1243 rfl dX8_callAt_63 ?_
        refine j_iload_n (pc := 66) hK dX8_callAt_66 rfl ?_
        refine yi_ald (pc := 67) (k := 3) hK rfl rfl (by first | assumption | exact vp_in_c (by decide)) dX8_callAt_67 ?_
        refine j_aload_n (pc := 68) hK dX8_callAt_68 rfl ?_
        refine yi_getI (pc := 69) (k := 10) hK (by decide) rfl rfl q1250 rfl dX8_callAt_69 ?_
        refine j_iload_n (pc := 72) hK dX8_callAt_72 rfl ?_
        refine j_iadd (pc := 73) hK dX8_callAt_73 ?_
        refine j_callV (pc := 74) hK hQ (c_Ywould2 _ _ _ (by assumption) ho) cal_X8_would_2 yi_isC q1391 dX8_callAt_74 rfl rfl (nle rfl) (nle rfl) (nle rfl) (nle rfl) (kr_i fun r74 => ?_) kx_i
        refine J.pre fun e74 => ?_
        subst e74
        refine j_if_eq_b (pc := 77) (tgt := 82) hK dX8_callAt_77 (by decide) (fun c77 => ?_) (fun c77 => ?_)
        · refine j_iinc2 (pc := 82) (v := 1) hK dX8_callAt_82 (by decide) rfl (by decide) ?_
          refine j_goto (pc := 85) (tgt := 25) hK dX8_callAt_85 (by decide) ?_
          rw [nI_1]
          exact ih (n + 1) (by omega) (by rw [← hp]; first | rw [catL_n1 c57] | rw [catL_n2 c77])
        · refine j_iload_n (pc := 80) hK dX8_callAt_80 rfl ?_
          exact j_iret (pc := 81) hK hQ (nle rfl) (nle rfl) dX8_callAt_81 (fun h w => ⟨_, rfl, by rw [← hp, catL_p c57 c77], w⟩)
  refine j_aload_n (pc := 0) hK dX8_callAt_0 rfl ?_
  refine j_iload_n (pc := 1) hK dX8_callAt_1 rfl ?_
  refine j_callV (pc := 2) hK hQ (c_YisBoat _) cal_X8_isBoat yi_isC q1370 dX8_callAt_2 rfl rfl (nle rfl) (nle rfl) (nle rfl) (nle rfl) (kr_i fun r2 => ?_) kx_i
  refine J.pre fun e2 => ?_
  subst e2
  refine j_if_ne_b (pc := 5) (tgt := 11) hK dX8_callAt_5 (by decide) (fun c5 => ?_) (fun c5 => ?_)
  · have hb := bo_in c5 h0 h7
    refine j_aload_n (pc := 11) hK dX8_callAt_11 rfl ?_
    refine yi_getR (pc := 12) (k := 6) hK (by decide) rfl q1246 rfl dX8_callAt_12 ?_
    refine j_iload_n (pc := 15) hK dX8_callAt_15 rfl ?_
    refine yi_ald (pc := 16) (k := 6) hK rfl rfl (by first | assumption | exact vp_in_c (by decide)) dX8_callAt_16 ?_
    refine j_if_eq (pc := 17) (tgt := 23) hK dX8_callAt_17 (by decide) (fun c17 => ?_) (fun c17 => ?_)
    · refine j_iconst (pc := 23) (v := 0) hK dX8_callAt_23 (by decide) ?_
      refine j_ist2 (pc := 24) hK dX8_callAt_24 (by decide) rfl ?_
      exact loop hb 241 0 (by omega) (by unfold oCallAt; rw [if_neg (fun z => z c5), if_neg (fun z => z c17)])
    · refine j_bipush (pc := 20) (v := (-3)) hK dX8_callAt_20 (by decide) ?_
      exact j_iret (pc := 22) hK hQ (nle rfl) (nle rfl) dX8_callAt_22 (fun h w => ⟨_, rfl, by unfold oCallAt; first | rw [if_pos c5] | rw [if_neg (fun z => z c5), if_pos c17], w⟩)
  · refine j_bipush (pc := 8) (v := (-2)) hK dX8_callAt_8 (by decide) ?_
    exact j_iret (pc := 10) hK hQ (nle rfl) (nle rfl) dX8_callAt_10 (fun h w => ⟨_, rfl, by unfold oCallAt; first | rw [if_pos c5] | rw [if_neg (fun z => z c5), if_pos c17], w⟩)
theorem c_YwouldBeIn (b : Int32) (hb : vp_in b 7) (ho : OkR f T) : Ct Γ A yX8_wouldBeIn wX8_wouldBeIn 5 0 0 [.ref (L 40), .int b] (YI Γ L f g T) (RI fun r h => r = wbiI f g T b ∧ YI Γ L f g T h) := by
  refine Ct.of (cc := cX8_wouldBeIn) (nL := 2) (ret := (some .int)) (ls := [some (.ref (L 40)), some (.int b)]) rfl rfl rfl (nle rfl) ?_
  intro K hK hQ
  refine j_aload_n (pc := 0) hK dX8_wouldBeIn_0 rfl ?_
  refine yi_getR (pc := 1) (k := 6) hK (by decide) rfl q1246 rfl dX8_wouldBeIn_1 ?_
  refine j_iload_n (pc := 4) hK dX8_wouldBeIn_4 rfl ?_
  refine yi_ald (pc := 5) (k := 6) hK rfl rfl (by first | assumption | exact vp_in_c (by decide)) dX8_wouldBeIn_5 ?_
  refine j_iconst (pc := 6) (v := 1) hK dX8_wouldBeIn_6 (by decide) ?_
  refine j_icmp_ne (pc := 7) (tgt := 17) hK dX8_wouldBeIn_7 (by decide) (fun c7 => ?_) (fun c7 => ?_)
  · refine j_aload_n (pc := 17) hK dX8_wouldBeIn_17 rfl ?_
    refine yi_getR (pc := 18) (k := 6) hK (by decide) rfl q1246 rfl dX8_wouldBeIn_18 ?_
    refine j_iload_n (pc := 21) hK dX8_wouldBeIn_21 rfl ?_
    refine yi_ald (pc := 22) (k := 6) hK rfl rfl (by first | assumption | exact vp_in_c (by decide)) dX8_wouldBeIn_22 ?_
    refine j_if_ne (pc := 23) (tgt := 47) hK dX8_wouldBeIn_23 (by decide) (fun c23 => ?_) (fun c23 => ?_)
    · refine j_iconst (pc := 47) (v := (-1)) hK dX8_wouldBeIn_47 (by decide) ?_
      exact j_iret (pc := 48) hK hQ (nle rfl) (nle rfl) dX8_wouldBeIn_48 (fun h w => ⟨_, rfl, by first | exact wbi_a c7 | exact wbi_b c7 c23 | exact wbi_c c7 c31 | exact wbi_d c7 c23 c31, w⟩)
    · refine j_aload_n (pc := 26) hK dX8_wouldBeIn_26 rfl ?_
      refine j_iload_n (pc := 27) hK dX8_wouldBeIn_27 rfl ?_
      refine j_callV (pc := 28) hK hQ (c_Ywould _ (by assumption) ho) cal_X8_would yi_isC q1387 dX8_wouldBeIn_28 rfl rfl (nle rfl) (nle rfl) (nle rfl) (nle rfl) (kr_i fun r28 => ?_) kx_i
      refine J.pre fun e28 => ?_
      subst e28
      refine j_if_eq_b (pc := 31) (tgt := 47) hK dX8_wouldBeIn_31 (by decide) (fun c31 => ?_) (fun c31 => ?_)
      · refine j_iconst (pc := 47) (v := (-1)) hK dX8_wouldBeIn_47 (by decide) ?_
        exact j_iret (pc := 48) hK hQ (nle rfl) (nle rfl) dX8_wouldBeIn_48 (fun h w => ⟨_, rfl, by first | exact wbi_a c7 | exact wbi_b c7 c23 | exact wbi_c c7 c31 | exact wbi_d c7 c23 c31, w⟩)
      · refine j_aload_n (pc := 34) hK dX8_wouldBeIn_34 rfl ?_
        refine yi_getI (pc := 35) (k := 10) hK (by decide) rfl rfl q1250 rfl dX8_wouldBeIn_35 ?_
        refine j_aload_n (pc := 38) hK dX8_wouldBeIn_38 rfl ?_
        refine j_iload_n (pc := 39) hK dX8_wouldBeIn_39 rfl ?_
        refine j_callV (pc := 40) hK hQ (c_Yneeds _ (by assumption)) cal_X8_needs yi_isC q1418 dX8_wouldBeIn_40 rfl rfl (nle rfl) (nle rfl) (nle rfl) (nle rfl) (kr_i fun r40 => ?_) kx_i
        refine J.pre fun e40 => ?_
        subst e40
        refine j_iadd (pc := 43) hK dX8_wouldBeIn_43 ?_
        refine j_goto (pc := 44) (tgt := 48) hK dX8_wouldBeIn_44 (by decide) ?_
        exact j_iret (pc := 48) hK hQ (nle rfl) (nle rfl) dX8_wouldBeIn_48 (fun h w => ⟨_, rfl, by first | exact wbi_a c7 | exact wbi_b c7 c23 | exact wbi_c c7 c31 | exact wbi_d c7 c23 c31, w⟩)
  · refine j_aload_n (pc := 10) hK dX8_wouldBeIn_10 rfl ?_
    refine yi_getR (pc := 11) (k := 7) hK (by decide) rfl q1247 rfl dX8_wouldBeIn_11 ?_
    refine j_iload_n (pc := 14) hK dX8_wouldBeIn_14 rfl ?_
    refine yi_ald (pc := 15) (k := 7) hK rfl rfl (by first | assumption | exact vp_in_c (by decide)) dX8_wouldBeIn_15 ?_
    exact j_iret (pc := 16) hK hQ (nle rfl) (nle rfl) dX8_wouldBeIn_16 (fun h w => ⟨_, rfl, by first | exact wbi_a c7 | exact wbi_b c7 c23 | exact wbi_c c7 c31 | exact wbi_d c7 c23 c31, w⟩)
theorem c_YallIn {nb : Nat} (hn : nb ≤ 7) (e0 : f 0 = nI nb) (ho : OkR f T) : Ct Γ A yX8_allIn wX8_allIn 6 0 0 [.ref (L 40)] (YI Γ L f g T) (RI fun r h => r = allS f g T nb ∧ YI Γ L f g T h) := by
  refine Ct.of (cc := cX8_allIn) (nL := 3) (ret := (some .int)) (ls := [some (.ref (L 40)), none, none]) rfl rfl rfl (nle rfl) ?_
  intro K hK hQ
  have loop : ∀ (n i : Nat), i + n = nb → J Γ A K 7 [some (.ref (L 40)), some (.int (allS f g T i)), some (.int (nI i))] [] (YI Γ L f g T) 0 0 := by
    intro n
    induction n with
    | zero =>
      intro i hi
      refine j_iload_n (pc := 7) hK dX8_allIn_7 rfl ?_
      refine j_aload_n (pc := 8) hK dX8_allIn_8 rfl ?_
      refine yi_getI (pc := 9) (k := 0) hK (by decide) rfl rfl q1240 rfl dX8_allIn_9 ?_
      refine j_icmp_ge (pc := 12) (tgt := 31) hK dX8_allIn_12 (by decide) (fun c12 => ?_) (fun c12 => absurd (by rw [e0]; exact nI_le (by omega) (by omega)) c12)
      refine j_iload_n (pc := 31) hK dX8_allIn_31 rfl ?_
      exact j_iret (pc := 32) hK hQ (nle rfl) (nle rfl) dX8_allIn_32 (fun h w => ⟨_, rfl, by rw [show i = nb by omega], w⟩)
    | succ n ih =>
      intro i hi
      have hb : vp_in (nI i) 7 := vp_in_nI (by omega) (by decide)
      refine j_iload_n (pc := 7) hK dX8_allIn_7 rfl ?_
      refine j_aload_n (pc := 8) hK dX8_allIn_8 rfl ?_
      refine yi_getI (pc := 9) (k := 0) hK (by decide) rfl rfl q1240 rfl dX8_allIn_9 ?_
      refine j_icmp_ge (pc := 12) (tgt := 31) hK dX8_allIn_12 (by decide) (fun c12 => absurd c12 (by rw [e0]; exact nI_ge (by omega) (by omega))) (fun c12 => ?_)
      refine j_iload_n (pc := 15) hK dX8_allIn_15 rfl ?_
      refine j_aload_n (pc := 16) hK dX8_allIn_16 rfl ?_
      refine j_iload_n (pc := 17) hK dX8_allIn_17 rfl ?_
      refine j_callV (pc := 18) hK hQ (c_YwouldBeIn _ (by assumption) ho) cal_X8_wouldBeIn yi_isC q1446 dX8_allIn_18 rfl rfl (nle rfl) (nle rfl) (nle rfl) (nle rfl) (kr_i fun r18 => ?_) kx_i
      refine J.pre fun e18 => ?_
      subst e18
      refine j_mmax (pc := 21) hK hQ q1386 dX8_allIn_21 (nle rfl) (nle rfl) (nle rfl) ?_
      refine j_ist1 (pc := 24) hK dX8_allIn_24 (by decide) rfl ?_
      refine j_iinc2 (pc := 25) (v := 1) hK dX8_allIn_25 (by decide) rfl (by decide) ?_
      refine j_goto (pc := 28) (tgt := 7) hK dX8_allIn_28 (by decide) ?_
      rw [nI_1]
      exact ih (i + 1) (by omega)
  refine j_aload_n (pc := 0) hK dX8_allIn_0 rfl ?_
  refine yi_getI (pc := 1) (k := 10) hK (by decide) rfl rfl q1250 rfl dX8_allIn_1 ?_
  refine j_ist1 (pc := 4) hK dX8_allIn_4 (by decide) rfl ?_
  refine j_iconst (pc := 5) (v := 0) hK dX8_allIn_5 (by decide) ?_
  refine j_ist2 (pc := 6) hK dX8_allIn_6 (by decide) rfl ?_
  exact loop nb 0 (by omega)
end Y7
