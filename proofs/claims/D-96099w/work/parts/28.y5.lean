/-! the texts' worth: rules -/
set_option maxRecDepth 100000
/-- fewer listed locals -/
def subL : List (Option Value) → List (Option Value) → Prop
  | [], _ => True
  | none :: t, _ :: t' => subL t t'
  | some v :: t, some w :: t' => v = w ∧ subL t t'
  | _, _ => False
theorem subL.ok : ∀ (l2 l : List (Option Value)), subL l2 l → ∀ (i : Nat) (v : Value), l2[i]? = some (some v) → l[i]? = some (some v) := by
  intro l2
  induction l2 with
  | nil => intro l _ i v h; simp at h
  | cons o t ih =>
    intro l hs i v h
    match o, l, hs with
    | none, _ :: t', hs =>
      match i, h with
      | 0, h => simp at h
      | i + 1, h => simpa using ih t' hs i v (by simpa using h)
    | some w, some w' :: t', hs =>
      obtain ⟨rfl, hs⟩ := hs
      match i, h with
      | 0, h => simpa using h
      | i + 1, h => simpa using ih t' hs i v (by simpa using h)
theorem J.fg {Γ : Gam} {A : Nat → Prop} {K : JC} {pc : Nat} {ls : List (Option Value)} {st : List Value} {P : PH → Prop} {cs ss : Nat} (l2 : List (Option Value)) (h : subL l2 ls) (k : J Γ A K pc l2 st P cs ss) : J Γ A K pc ls st P cs ss := J.lsub (subL.ok l2 ls h) k
def op2 (c x y : Int32) : Int32 := if c = -11 then b2i (¬ x = 0 ∨ ¬ y = 0) else if c = -12 then b2i (¬ x = 0 ∧ ¬ y = 0) else if c = -14 then b2i (x < y) else if c = -15 then b2i (x = y) else if c = -16 then x + y else if c = -17 then x - y else x * y
/-- one sign of the code, over the stack (its top first) -/
def ev1 (nm : Int32 → Int32) (c : Int32) (S : List Int32) : List Int32 :=
  if 0 ≤ c then c :: S else if -7 < c then nm (-c - 1) :: S else match S with
    | [] => []
    | y :: S1 => if c = -13 then b2i (y = 0) :: S1 else if c = -19 then (-y) :: S1 else match S1 with
      | [] => []
      | x :: S2 => op2 c x y :: S2
def evs (nm : Int32 → Int32) : List Int32 → List Int32 → List Int32
  | [], S => S
  | c :: R, S => evs nm R (ev1 nm c S)
def dp1 (c : Int32) (n : Nat) : Option Nat := if -7 < c then some (n + 1) else match n with
  | 0 => none
  | n + 1 => if c = -13 ∨ c = -19 then some (n + 1) else match n with
    | 0 => none
    | n + 1 => some (n + 1)
def dps : List Int32 → Nat → Option Nat
  | [], n => some n
  | c :: R, n => (dp1 c n).bind (dps R)
section S5
variable (f : Nat → Int32) (g : Nat → Int32 → Int32) (T : TX)
def nmF (b cell minute : Int32) : Int32 → Int32 := fun j => if j = 0 then farI cell 0 else if j = 1 then f 9 else if j = 2 then minute - g 4 b - g 5 b else if j = 3 then b2i (cell / 8 = f 8 / 8 ∧ f 8 % 8 < cell % 8) else if j = 4 then b else minute
def ruleI (which : Nat) (b cell minute : Int32) : Int32 := (evs (nmF f g b cell minute) (T (f 18) which) []).headD 0
/-- the texts are well made -/
def InvT : Prop := ∀ t : Int32, 0 ≤ t → t < f 17 → ∀ w, w < 3 → dps (T t w) 0 = some 1
end S5
def Stk (g : Nat → Int32 → Int32) : List Int32 → Prop
  | [] => True
  | v :: S => g 27 (nI S.length) = v ∧ Stk g S
theorem Stk.put {g : Nat → Int32 → Int32} {n : Nat} {v : Int32} : ∀ {S : List Int32}, Stk g S → S.length ≤ n → n < 2 ^ 31 → Stk (ug g 27 (nI n) v) S := by
  intro S
  induction S with
  | nil => intros; trivial
  | cons a t ih =>
    intro h hn h2
    simp only [List.length_cons] at hn
    refine ⟨?_, ih h.2 (by omega) h2⟩
    rw [ug_i g 27 v (fun e => by rw [nI_eq (by omega) h2] at e; omega)]
    exact h.1
theorem Stk.push {g : Nat → Int32 → Int32} {v : Int32} {S : List Int32} (h : Stk g S) (hn : S.length < 2 ^ 31) : Stk (ug g 27 (nI S.length) v) (v :: S) := ⟨ug_s _ _ _ _, h.put (Nat.le_refl _) hn⟩
theorem Stk.oth {g : Nat → Int32 → Int32} {k : Nat} {i v : Int32} (hk : k ≠ 27) : ∀ {S : List Int32}, Stk g S → Stk (ug g k i v) S := by
  intro S
  induction S with
  | nil => intros; trivial
  | cons a t ih =>
    intro h
    refine ⟨?_, ih h.2⟩
    rw [ug_k g i v (fun z => hk z.symm)]
    exact h.1
/-- nothing but the stack and the names has changed -/
def Same2 (g g' : Nat → Int32 → Int32) : Prop := ∀ k, k ≠ 27 → k ≠ 28 → ∀ j, g' k j = g k j
theorem Same2.put {g g' : Nat → Int32 → Int32} {k : Nat} {i v : Int32} (h : Same2 g g') (hk : k = 27 ∨ k = 28) : Same2 g (ug g' k i v) := fun q h1 h2 j => by
  rw [ug_k g' i v (by omega)]
  exact h q h1 h2 j
section P5
variable {c x y : Int32}
theorem pI0 (h : ¬ c < 0) : 0 ≤ c := by grind
theorem pI1 (h : ¬ c < 0) : -7 < c := by grind
theorem pI2 (h : c < 0) : ¬ 0 ≤ c := by grind
theorem pI3 (h : ¬ c ≤ -7) : -7 < c := by grind
theorem pI4 (h : c ≤ -7) : ¬ -7 < c := by grind
theorem pI5 (h1 : c < 0) (h2 : ¬ c ≤ -7) : 0 ≤ -c - 1 := by grind
theorem pI6 (h1 : c < 0) (h2 : ¬ c ≤ -7) : -c - 1 ≤ 5 := by grind
theorem pI7 (h1 : c < 0) (h2 : ¬ c ≤ -7) : vp_in (-c - 1) 6 := inb_of (n := 6) (pI5 h1 h2) (by rw [show nI 6 = (6 : Int32) by decide]; grind) (by decide)
theorem o11a (h : ¬ x = 0) : (1 : Int32) = op2 (-11) x y := by simp [op2, b2i, h]
theorem o11b (h : x = 0) (h2 : y = 0) : (0 : Int32) = op2 (-11) x y := by simp [op2, b2i, h, h2]
theorem o11c (h2 : ¬ y = 0) : (1 : Int32) = op2 (-11) x y := by simp [op2, b2i, h2]
theorem o12a (h : x = 0) : (0 : Int32) = op2 (-12) x y := by simp [op2, b2i, h]
theorem o12b (h : y = 0) : (0 : Int32) = op2 (-12) x y := by simp [op2, b2i, h]
theorem o12c (h : ¬ x = 0) (h2 : ¬ y = 0) : (1 : Int32) = op2 (-12) x y := by simp [op2, b2i, h, h2]
theorem o14a (h : y ≤ x) : (0 : Int32) = op2 (-14) x y := by
  have : ¬ x < y := by grind
  simp [op2, b2i, this]
theorem o14b (h : ¬ y ≤ x) : (1 : Int32) = op2 (-14) x y := by
  have : x < y := by grind
  simp [op2, b2i, this]
theorem o15a (h : ¬ x = y) : (0 : Int32) = op2 (-15) x y := by simp [op2, b2i, h]
theorem o15b (h : x = y) : (1 : Int32) = op2 (-15) x y := by simp [op2, b2i, h]
theorem o16 : x + y = op2 (-16) x y := by simp [op2]
theorem o17 : x - y = op2 (-17) x y := by simp [op2]
theorem o18 (h1 : ¬ c = -11) (h2 : ¬ c = -12) (h3 : ¬ c = -14) (h4 : ¬ c = -15) (h5 : ¬ c = -16) (h6 : ¬ c = -17) : x * y = op2 c x y := by simp [op2, h1, h2, h3, h4, h5, h6]
theorem nm6 {g1 : Nat → Int32 → Int32} {v0 v1 v2 v3 v4 v5 : Int32} {N : Int32 → Int32} (h0 : v0 = N 0) (h1 : v1 = N 1) (h2 : v2 = N 2) (h3 : v3 = N 3) (h4 : v4 = N 4) (h5 : v5 = N 5) : ∀ j : Int32, 0 ≤ j → j ≤ 5 → (ug (ug (ug (ug (ug (ug g1 28 0 v0) 28 1 v1) 28 2 v2) 28 3 v3) 28 4 v4) 28 5 v5) 28 j = N j := by
  intro j a b
  have hj : j = 0 ∨ j = 1 ∨ j = 2 ∨ j = 3 ∨ j = 4 ∨ j = 5 := by grind
  rcases hj with rfl | rfl | rfl | rfl | rfl | rfl <;> simp [ug, h0, h1, h2, h3, h4, h5]
theorem hid0a {a b p q : Int32} (h : ¬ a = b) : (0 : Int32) = b2i (a = b ∧ p < q) := by simp [b2i, h]
theorem hid0b {a b p q : Int32} (h : q ≤ p) : (0 : Int32) = b2i (a = b ∧ p < q) := by
  have : ¬ p < q := by grind
  simp [b2i, this]
theorem hid1 {a b p q : Int32} (h : a = b) (h2 : ¬ q ≤ p) : (1 : Int32) = b2i (a = b ∧ p < q) := by
  have : p < q := by grind
  simp [b2i, h, this]
end P5
section Y5
variable {Γ : Gam} {A : Nat → Prop} {L : Nat → Nat} {f : Nat → Int32} {g : Nat → Int32 → Int32} {T : TX} {P : PH → Prop} {K : JC} {pc : Nat} {ls : List (Option Value)} {st : List Value} {cs ss : Nat}
theorem yi_open (k : ∀ f' g', Ess f' g' f g → YT f' g' T → J Γ A K pc ls st (YW Γ L f' g') cs ss) : J Γ A K pc ls st (YI Γ L f g T) cs ss := fun h H locs arr ⟨f', g', w, e, t⟩ hR hL => k f' g' e t h H locs arr w hR hL
theorem yi_same {f1 : Nat → Int32} {g1 g2 : Nat → Int32 → Int32} {h : PH} (w : YW Γ L f1 g2 h) (he : Ess f1 g1 f g) (ht : YT f1 g1 T) (hs : Same2 g1 g2) : YI Γ L f g T h := by
  refine ⟨f1, g2, w, fun k hk => ⟨(he k hk).1, fun j => ?_⟩, fun t h1 h2 => ?_⟩
  · rw [hs k (fun z => by subst z; cases hk) (fun z => by subst z; cases hk)]
    exact (he k hk).2 j
  · obtain ⟨n, p, q⟩ := ht t h1 h2
    refine ⟨n, fun w hw => ?_, fun w hw => ⟨(q w hw).1, fun i hi => ?_⟩⟩
    · rw [hs 20 (by decide) (by decide)]; exact p w hw
    · rw [hs 19 (by decide) (by decide)]; exact (q w hw).2 i hi
theorem c_Yrules (which : Nat) (b cell minute : Int32) (hb : vp_in b 7) (hw : which < 3) (hr0 : 0 ≤ f 18) (hr : f 18 < f 17) (hr6 : f 17 ≤ 6) (hT : InvT f T) : Ct Γ A yX8_rules wX8_rules 2 0 0 [.ref (L 40), .int (nI which), .int b, .int cell, .int minute] (YI Γ L f g T) (RI fun r h => r = ruleI f g T which b cell minute ∧ YI Γ L f g T h) := by
  refine Ct.of (cc := cX8_rules) (nL := 12) (ret := (some .int)) (ls := [some (.ref (L 40)), some (.int (nI which)), some (.int b), some (.int cell), some (.int minute), none, none, none, none, none, none, none]) rfl rfl rfl (nle rfl) ?_
  intro K hK hQ
  refine yi_open fun f1 g1 he ht => ?_
  have e17 : f1 17 = f 17 := (he 17 rfl).1
  have e18 : f1 18 = f 18 := (he 18 rfl).1
  have e9 : f1 9 = f 9 := (he 9 rfl).1
  have e8 : f1 8 = f 8 := (he 8 rfl).1
  obtain ⟨rn, hrn, ern⟩ := nI_of (x := f 18) (by grind)
  have hrn6 : rn < 6 := by
    have h1 : nI rn < nI 6 := by rw [← ern, show nI 6 = (6 : Int32) by decide]; grind
    exact (nI_ltI hrn (by decide)).mp h1
  obtain ⟨n, hn, hc⟩ := ht (f 18) hr0 (by rw [e17]; exact hr)
  have hd0 := hT (f 18) hr0 hr which hw
  have i170 : ∀ i : Nat, 170 * f 18 + nI i = nI (170 * rn + i) := fun i => by
    rw [ern, show (170 : Int32) = nI 170 by decide, pk_mul, nI_add]
  have i4 : ∀ i : Nat, 4 * f 18 + nI i = nI (4 * rn + i) := fun i => by
    rw [ern, show (4 : Int32) = nI 4 by decide, pk_mul, nI_add]
  have hbeg : vp_in (4 * f 18 + nI which) 24 := by rw [i4]; exact vp_in_nI (by omega) (by decide)
  have hend : vp_in (4 * f 18 + nI which + 1) 24 := by rw [i4, nI_1]; exact vp_in_nI (by omega) (by decide)
  have eend : 4 * f 18 + nI which + 1 = 4 * f 18 + nI (which + 1) := by rw [i4, i4, nI_1]; rfl
  have hlen := (hc which hw).1
  have hn0 := hn which (by omega)
  have hn1 := hn (which + 1) (by omega)
  have loop : ∀ (R : List Int32) (k : Nat) (S : List Int32) (g2 : Nat → Int32 → Int32), k + R.length = (T (f 18) which).length → (∀ i, i < R.length → R[i]? = some (g1 19 (170 * f 18 + nI (n which + (k + i))))) → dps R S.length = some 1 → S.length ≤ k → (evs (nmF f g b cell minute) R S).headD 0 = ruleI f g T which b cell minute → Stk g2 S → (∀ j : Int32, 0 ≤ j → j ≤ 5 → g2 28 j = nmF f g b cell minute j) → Same2 g1 g2 → J Γ A K 132 [some (.ref (L 40)), some (.int (nI which)), some (.int b), some (.int cell), some (.int minute), some (.int (nI (n (which + 1)))), some (.int (nI S.length)), some (.int (nI (n which + k))), none, none, none, none] [] (YW Γ L f1 g2) 0 0 := by
    intro R
    induction R with
    | nil =>
      intro k S g2 hk hR hd hS hv hst hnm hsm
      simp only [List.length_nil, Nat.add_zero] at hk
      simp only [dps, Option.some.injEq] at hd
      obtain ⟨v, rfl⟩ : ∃ v, S = [v] := by
        match S, hd with
        | [v], _ => exact ⟨v, rfl⟩
      refine j_iload (pc := 132) hK dX8_rules_132 rfl ?_
      refine j_iload (pc := 134) hK dX8_rules_134 rfl ?_
      refine j_icmp_ge (pc := 136) (tgt := 446) hK dX8_rules_136 (by decide) (fun c136 => ?_) (fun c136 => absurd (by rw [show n which + k = n (which + 1) by omega]; exact nI_le (Nat.le_refl _) (by omega)) c136)
      refine j_aload_n (pc := 446) hK dX8_rules_446 rfl ?_
      refine y_getR (pc := 447) (k := 27) hK (by decide) rfl q1267 rfl dX8_rules_447 ?_
      refine j_iconst (pc := 450) (v := 0) hK dX8_rules_450 (by decide) ?_
      refine y_ald (pc := 451) (k := 27) hK rfl (vp_in_c (by decide)) dX8_rules_451 ?_
      exact j_iret (pc := 452) hK hQ (nle rfl) (nle rfl) dX8_rules_452 (fun h w => ⟨_, rfl, by rw [← hv]; exact hst.1, yi_same w he ht hsm⟩)
    | cons c R ih =>
      intro k S g2 hk hR hd hS hv hst hnm hsm
      simp only [List.length_cons] at hk
      have hc0 : c = g1 19 (170 * f 18 + nI (n which + k)) := by
        have := hR 0 (by simp)
        simpa using this
      have hR' : ∀ i, i < R.length → R[i]? = some (g1 19 (170 * f 18 + nI (n which + (k + 1 + i)))) := fun i hi => by
        have := hR (i + 1) (by simp; omega)
        rw [show k + 1 + i = k + (i + 1) by omega]
        simpa using this
      have hci : vp_in (170 * f1 18 + nI (n which + k)) 1020 := by rw [e18, i170]; exact vp_in_nI (by omega) (by decide)
      have hS2 : S.length < 170 := by omega
      have hlt : vp_in (nI S.length) 170 := vp_in_nI hS2 (by decide)
      have e19 : g2 19 (170 * f1 18 + nI (n which + k)) = c := by rw [hsm 19 (by decide) (by decide), e18, hc0]
      have hd' : (dp1 c S.length).bind (dps R) = some 1 := hd
      have hv' : (evs (nmF f g b cell minute) R (ev1 (nmF f g b cell minute) c S)).headD 0 = ruleI f g T which b cell minute := hv
      have tail : ∀ (v : Int32) (S1 : List Int32) (o8 o9 o10 o11 : Option Value), ev1 (nmF f g b cell minute) c S = v :: S1 → dp1 c S.length = some (S1.length + 1) → S1.length ≤ k → Stk g2 S1 → J Γ A K 440 [some (.ref (L 40)), some (.int (nI which)), some (.int b), some (.int cell), some (.int minute), some (.int (nI (n (which + 1)))), some (.int (nI (S1.length + 1))), some (.int (nI (n which + k))), o8, o9, o10, o11] [] (YW Γ L f1 (ug g2 27 (nI S1.length) v)) 0 0 := by
        intro v S1 o8 o9 o10 o11 h1 h2 h3 h4
        rw [h1] at hv'
        rw [h2] at hd'
        have := ih (k + 1) (v :: S1) (ug g2 27 (nI S1.length) v) (by omega) hR' hd' (by simp; omega) hv' (h4.push (by omega)) (fun j a b => by rw [ug_k g2 _ v (by decide)]; exact hnm j a b) (hsm.put (Or.inl rfl))
        rw [show n which + (k + 1) = n which + k + 1 by omega, ← nI_1] at this
        refine j_iinc7 (pc := 440) (v := 1) hK dX8_rules_440 (by decide) rfl (by decide) ?_
        refine j_goto (pc := 443) (tgt := 132) hK dX8_rules_443 (by decide) ?_
        refine J.fg _ ?_ this
        exact ⟨rfl, rfl, rfl, rfl, rfl, rfl, rfl, rfl, trivial⟩
      refine j_iload (pc := 132) hK dX8_rules_132 rfl ?_
      refine j_iload (pc := 134) hK dX8_rules_134 rfl ?_
      refine j_icmp_ge (pc := 136) (tgt := 446) hK dX8_rules_136 (by decide) (fun c136 => absurd c136 (nI_ge (by omega) (by omega))) (fun c136 => ?_)
      refine j_aload_n (pc := 139) hK dX8_rules_139 rfl ?_
      refine y_getR (pc := 140) (k := 19) hK (by decide) rfl q1259 rfl dX8_rules_140 ?_
      refine j_sipush (pc := 143) (v := 170) hK dX8_rules_143 (by decide) ?_
      refine j_aload_n (pc := 146) hK dX8_rules_146 rfl ?_
      refine y_getI (pc := 147) (k := 18) hK (by decide) rfl q1258 rfl dX8_rules_147 ?_
      refine j_imul (pc := 150) hK dX8_rules_150 ?_
      refine j_iload (pc := 151) hK dX8_rules_151 rfl ?_
      refine j_iadd (pc := 153) hK dX8_rules_153 ?_
      refine y_ald (pc := 154) (k := 19) hK rfl hci dX8_rules_154 ?_
      rw [e19]
      refine j_ist8 (pc := 155) hK dX8_rules_155 (by decide) rfl ?_
      refine j_iload (pc := 157) hK dX8_rules_157 rfl ?_
      refine j_if_lt (pc := 159) (tgt := 177) hK dX8_rules_159 (by decide) (fun c159 => ?_) (fun c159 => ?_)
      · refine j_iload (pc := 177) hK dX8_rules_177 rfl ?_
        refine j_bipush (pc := 179) (v := (-7)) hK dX8_rules_179 (by decide) ?_
        refine j_icmp_le (pc := 181) (tgt := 207) hK dX8_rules_181 (by decide) (fun c181 => ?_) (fun c181 => ?_)
        · have hn7 : ¬ -7 < c := pI4 c181
          have hn0' : ¬ 0 ≤ c := pI2 c159
          obtain ⟨y, S1, eS⟩ : ∃ y S1, S = y :: S1 := by
            match S, hd' with
            | [], hd' => simp [dp1, hn7] at hd'
            | y :: S1, _ => exact ⟨y, S1, rfl⟩
          subst eS
          have ex : nI (y :: S1).length - 1 = nI S1.length := nI_pred _
          have ey : g2 27 (nI (y :: S1).length - 1) = y := by rw [ex]; exact hst.1
          have hl1 : S1.length + 1 < 170 := hS2
          have hl2 : S1.length + 1 ≤ k := hS
          have hy1 : vp_in (nI (y :: S1).length - 1) 170 := by rw [ex]; exact vp_in_nI (by omega) (by decide)
          refine j_aload_n (pc := 207) hK dX8_rules_207 rfl ?_
          refine y_getR (pc := 208) (k := 27) hK (by decide) rfl q1267 rfl dX8_rules_208 ?_
          refine j_iload (pc := 211) hK dX8_rules_211 rfl ?_
          refine j_iconst (pc := 213) (v := 1) hK dX8_rules_213 (by decide) ?_
          refine j_isub (pc := 214) hK dX8_rules_214 ?_
          refine y_ald (pc := 215) (k := 27) hK rfl hy1 dX8_rules_215 ?_
          rw [ey]
          refine j_ist9 (pc := 216) hK dX8_rules_216 (by decide) rfl ?_
          refine j_iload (pc := 218) hK dX8_rules_218 rfl ?_
          refine j_bipush (pc := 220) (v := (-13)) hK dX8_rules_220 (by decide) ?_
          refine j_icmp_ne (pc := 222) (tgt := 247) hK dX8_rules_222 (by decide) (fun c222 => ?_) (fun c222 => ?_)
          · refine j_iload (pc := 247) hK dX8_rules_247 rfl ?_
            refine j_bipush (pc := 249) (v := (-19)) hK dX8_rules_249 (by decide) ?_
            refine j_icmp_ne (pc := 251) (tgt := 269) hK dX8_rules_251 (by decide) (fun c251 => ?_) (fun c251 => ?_)
            · obtain ⟨x, S2, eS⟩ : ∃ x S2, S1 = x :: S2 := by
                match S1, hd' with
                | [], hd' => simp [dp1, hn7, c222, c251] at hd'
                | x :: S2, _ => exact ⟨x, S2, rfl⟩
              subst eS
              have ex2 : nI (y :: x :: S2).length - 2 = nI S2.length := by rw [show (2 : Int32) = nI 2 by decide]; exact pk_sub (by simp)
              have exx : g2 27 (nI (y :: x :: S2).length - 2) = x := by rw [ex2]; exact hst.2.1
              have hl3 : S2.length + 2 < 170 := hl1
              have hl4 : S2.length + 2 ≤ k := hl2
              have hx1 : vp_in (nI (y :: x :: S2).length - 2) 170 := by rw [ex2]; exact vp_in_nI (by omega) (by decide)
              refine j_aload_n (pc := 269) hK dX8_rules_269 rfl ?_
              refine y_getR (pc := 270) (k := 27) hK (by decide) rfl q1267 rfl dX8_rules_270 ?_
              refine j_iload (pc := 273) hK dX8_rules_273 rfl ?_
              refine j_iconst (pc := 275) (v := 2) hK dX8_rules_275 (by decide) ?_
              refine j_isub (pc := 276) hK dX8_rules_276 ?_
              refine y_ald (pc := 277) (k := 27) hK rfl hx1 dX8_rules_277 ?_
              rw [exx]
              refine j_ist10 (pc := 278) hK dX8_rules_278 (by decide) rfl ?_
              refine j_iinc6 (pc := 280) (v := (-1)) hK dX8_rules_280 (by decide) rfl (by decide) ?_
              rw [show nI (y :: x :: S2).length + (-1) = nI (S2.length + 1) from pk_m1 _]
              have bin : ∀ v, v = op2 c x y → J Γ A K 429 [some (.ref (L 40)), some (.int (nI which)), some (.int b), some (.int cell), some (.int minute), some (.int (nI (n (which + 1)))), some (.int (nI (S2.length + 1))), some (.int (nI (n which + k))), some (.int c), some (.int y), some (.int x), some (.int v)] [] (YW Γ L f1 g2) 0 0 := by
                intro v hv2
                have hx2 : vp_in (nI (S2.length + 1) - 1) 170 := by rw [nI_pred]; exact vp_in_nI (by omega) (by decide)
                refine j_aload_n (pc := 429) hK dX8_rules_429 rfl ?_
                refine y_getR (pc := 430) (k := 27) hK (by decide) rfl q1267 rfl dX8_rules_430 ?_
                refine j_iload (pc := 433) hK dX8_rules_433 rfl ?_
                refine j_iconst (pc := 435) (v := 1) hK dX8_rules_435 (by decide) ?_
                refine j_isub (pc := 436) hK dX8_rules_436 ?_
                refine j_iload (pc := 437) hK dX8_rules_437 rfl ?_
                refine y_ast (pc := 439) (k := 27) hK rfl hx2 dX8_rules_439 ?_
                rw [nI_pred]
                exact tail v S2 _ _ _ _ (by unfold ev1; simp [hn0', hn7, c222, c251, hv2]) (by unfold dp1; simp [hn7, c222, c251]) (by omega) hst.2.2
              refine j_iload (pc := 283) hK dX8_rules_283 rfl ?_
              refine j_table (pc := 285) hK dX8_rules_285 (by decide +kernel) (by decide +kernel) (fun cD285 => ?_) ⟨fun c285 => ?_, fun c285 => ?_, fun c285 => ?_, fun c285 => ?_, fun c285 => ?_, fun c285 => ?_, fun c285 => ?_, trivial⟩
              · have n285_m17 := cD285 (-17) (by decide) (by decide)
                have n285_m16 := cD285 (-16) (by decide) (by decide)
                have n285_m15 := cD285 (-15) (by decide) (by decide)
                have n285_m14 := cD285 (-14) (by decide) (by decide)
                have n285_m13 := cD285 (-13) (by decide) (by decide)
                have n285_m12 := cD285 (-12) (by decide) (by decide)
                have n285_m11 := cD285 (-11) (by decide) (by decide)
                clear cD285
                refine j_iload (pc := 422) hK dX8_rules_422 rfl ?_
                refine j_iload (pc := 424) hK dX8_rules_424 rfl ?_
                refine j_imul (pc := 426) hK dX8_rules_426 ?_
                refine j_ist11 (pc := 427) hK dX8_rules_427 (by decide) rfl ?_
                first
                  | exact absurd c285 c222
                  | exact bin _ (o18 n285_m11 n285_m12 n285_m14 n285_m15 n285_m16 n285_m17)
              · replace c285 : _ = (-17 : Int32) := c285
                refine j_iload (pc := 412) hK dX8_rules_412 rfl ?_
                refine j_iload (pc := 414) hK dX8_rules_414 rfl ?_
                refine j_isub (pc := 416) hK dX8_rules_416 ?_
                refine j_ist11 (pc := 417) hK dX8_rules_417 (by decide) rfl ?_
                refine j_goto (pc := 419) (tgt := 429) hK dX8_rules_419 (by decide) ?_
                exact bin _ (by rw [c285]; exact o17)
              · replace c285 : _ = (-16 : Int32) := c285
                refine j_iload (pc := 402) hK dX8_rules_402 rfl ?_
                refine j_iload (pc := 404) hK dX8_rules_404 rfl ?_
                refine j_iadd (pc := 406) hK dX8_rules_406 ?_
                refine j_ist11 (pc := 407) hK dX8_rules_407 (by decide) rfl ?_
                refine j_goto (pc := 409) (tgt := 429) hK dX8_rules_409 (by decide) ?_
                exact bin _ (by rw [c285]; exact o16)
              · replace c285 : _ = (-15 : Int32) := c285
                refine j_iload (pc := 385) hK dX8_rules_385 rfl ?_
                refine j_iload (pc := 387) hK dX8_rules_387 rfl ?_
                refine j_icmp_ne (pc := 389) (tgt := 396) hK dX8_rules_389 (by decide) (fun c389 => ?_) (fun c389 => ?_)
                · refine j_iconst (pc := 396) (v := 0) hK dX8_rules_396 (by decide) ?_
                  refine j_ist11 (pc := 397) hK dX8_rules_397 (by decide) rfl ?_
                  refine j_goto (pc := 399) (tgt := 429) hK dX8_rules_399 (by decide) ?_
                  exact bin _ (by rw [c285]; first | exact o15a c389 | exact o15b c389)
                · refine j_iconst (pc := 392) (v := 1) hK dX8_rules_392 (by decide) ?_
                  refine j_goto (pc := 393) (tgt := 397) hK dX8_rules_393 (by decide) ?_
                  refine j_ist11 (pc := 397) hK dX8_rules_397 (by decide) rfl ?_
                  refine j_goto (pc := 399) (tgt := 429) hK dX8_rules_399 (by decide) ?_
                  exact bin _ (by rw [c285]; first | exact o15a c389 | exact o15b c389)
              · replace c285 : _ = (-14 : Int32) := c285
                refine j_iload (pc := 368) hK dX8_rules_368 rfl ?_
                refine j_iload (pc := 370) hK dX8_rules_370 rfl ?_
                refine j_icmp_ge (pc := 372) (tgt := 379) hK dX8_rules_372 (by decide) (fun c372 => ?_) (fun c372 => ?_)
                · refine j_iconst (pc := 379) (v := 0) hK dX8_rules_379 (by decide) ?_
                  refine j_ist11 (pc := 380) hK dX8_rules_380 (by decide) rfl ?_
                  refine j_goto (pc := 382) (tgt := 429) hK dX8_rules_382 (by decide) ?_
                  exact bin _ (by rw [c285]; first | exact o14a c372 | exact o14b c372)
                · refine j_iconst (pc := 375) (v := 1) hK dX8_rules_375 (by decide) ?_
                  refine j_goto (pc := 376) (tgt := 380) hK dX8_rules_376 (by decide) ?_
                  refine j_ist11 (pc := 380) hK dX8_rules_380 (by decide) rfl ?_
                  refine j_goto (pc := 382) (tgt := 429) hK dX8_rules_382 (by decide) ?_
                  exact bin _ (by rw [c285]; first | exact o14a c372 | exact o14b c372)
              · replace c285 : _ = (-13 : Int32) := c285
                refine j_iload (pc := 422) hK dX8_rules_422 rfl ?_
                refine j_iload (pc := 424) hK dX8_rules_424 rfl ?_
                refine j_imul (pc := 426) hK dX8_rules_426 ?_
                refine j_ist11 (pc := 427) hK dX8_rules_427 (by decide) rfl ?_
                first
                  | exact absurd c285 c222
                  | exact bin _ (o18 n285_m11 n285_m12 n285_m14 n285_m15 n285_m16 n285_m17)
              · replace c285 : _ = (-12 : Int32) := c285
                refine j_iload (pc := 348) hK dX8_rules_348 rfl ?_
                refine j_if_eq (pc := 350) (tgt := 362) hK dX8_rules_350 (by decide) (fun c350 => ?_) (fun c350 => ?_)
                · refine j_iconst (pc := 362) (v := 0) hK dX8_rules_362 (by decide) ?_
                  refine j_ist11 (pc := 363) hK dX8_rules_363 (by decide) rfl ?_
                  refine j_goto (pc := 365) (tgt := 429) hK dX8_rules_365 (by decide) ?_
                  exact bin _ (by rw [c285]; first | exact o12a c350 | exact o12b c355 | exact o12c c350 c355)
                · refine j_iload (pc := 353) hK dX8_rules_353 rfl ?_
                  refine j_if_eq (pc := 355) (tgt := 362) hK dX8_rules_355 (by decide) (fun c355 => ?_) (fun c355 => ?_)
                  · refine j_iconst (pc := 362) (v := 0) hK dX8_rules_362 (by decide) ?_
                    refine j_ist11 (pc := 363) hK dX8_rules_363 (by decide) rfl ?_
                    refine j_goto (pc := 365) (tgt := 429) hK dX8_rules_365 (by decide) ?_
                    exact bin _ (by rw [c285]; first | exact o12a c350 | exact o12b c355 | exact o12c c350 c355)
                  · refine j_iconst (pc := 358) (v := 1) hK dX8_rules_358 (by decide) ?_
                    refine j_goto (pc := 359) (tgt := 363) hK dX8_rules_359 (by decide) ?_
                    refine j_ist11 (pc := 363) hK dX8_rules_363 (by decide) rfl ?_
                    refine j_goto (pc := 365) (tgt := 429) hK dX8_rules_365 (by decide) ?_
                    exact bin _ (by rw [c285]; first | exact o12a c350 | exact o12b c355 | exact o12c c350 c355)
              · replace c285 : _ = (-11 : Int32) := c285
                refine j_iload (pc := 328) hK dX8_rules_328 rfl ?_
                refine j_if_ne (pc := 330) (tgt := 338) hK dX8_rules_330 (by decide) (fun c330 => ?_) (fun c330 => ?_)
                · refine j_iconst (pc := 338) (v := 1) hK dX8_rules_338 (by decide) ?_
                  refine j_goto (pc := 339) (tgt := 343) hK dX8_rules_339 (by decide) ?_
                  refine j_ist11 (pc := 343) hK dX8_rules_343 (by decide) rfl ?_
                  refine j_goto (pc := 345) (tgt := 429) hK dX8_rules_345 (by decide) ?_
                  exact bin _ (by rw [c285]; first | exact o11a c330 | exact o11b c330 c335 | exact o11c c335)
                · refine j_iload (pc := 333) hK dX8_rules_333 rfl ?_
                  refine j_if_eq (pc := 335) (tgt := 342) hK dX8_rules_335 (by decide) (fun c335 => ?_) (fun c335 => ?_)
                  · refine j_iconst (pc := 342) (v := 0) hK dX8_rules_342 (by decide) ?_
                    refine j_ist11 (pc := 343) hK dX8_rules_343 (by decide) rfl ?_
                    refine j_goto (pc := 345) (tgt := 429) hK dX8_rules_345 (by decide) ?_
                    exact bin _ (by rw [c285]; first | exact o11a c330 | exact o11b c330 c335 | exact o11c c335)
                  · refine j_iconst (pc := 338) (v := 1) hK dX8_rules_338 (by decide) ?_
                    refine j_goto (pc := 339) (tgt := 343) hK dX8_rules_339 (by decide) ?_
                    refine j_ist11 (pc := 343) hK dX8_rules_343 (by decide) rfl ?_
                    refine j_goto (pc := 345) (tgt := 429) hK dX8_rules_345 (by decide) ?_
                    exact bin _ (by rw [c285]; first | exact o11a c330 | exact o11b c330 c335 | exact o11c c335)
            · refine j_aload_n (pc := 254) hK dX8_rules_254 rfl ?_
              refine y_getR (pc := 255) (k := 27) hK (by decide) rfl q1267 rfl dX8_rules_255 ?_
              refine j_iload (pc := 258) hK dX8_rules_258 rfl ?_
              refine j_iconst (pc := 260) (v := 1) hK dX8_rules_260 (by decide) ?_
              refine j_isub (pc := 261) hK dX8_rules_261 ?_
              refine j_iload (pc := 262) hK dX8_rules_262 rfl ?_
              refine j_ineg (pc := 264) hK dX8_rules_264 ?_
              refine y_ast (pc := 265) (k := 27) hK rfl hy1 dX8_rules_265 ?_
              refine j_goto (pc := 266) (tgt := 440) hK dX8_rules_266 (by decide) ?_
              rw [ex]
              refine tail _ S1 _ _ _ _ ?_ (by unfold dp1; simp [hn7, c251]) (by omega) hst.2
              unfold ev1; simp [hn0', hn7, c222, c251]
          · refine j_aload_n (pc := 225) hK dX8_rules_225 rfl ?_
            refine y_getR (pc := 226) (k := 27) hK (by decide) rfl q1267 rfl dX8_rules_226 ?_
            refine j_iload (pc := 229) hK dX8_rules_229 rfl ?_
            refine j_iconst (pc := 231) (v := 1) hK dX8_rules_231 (by decide) ?_
            refine j_isub (pc := 232) hK dX8_rules_232 ?_
            refine j_iload (pc := 233) hK dX8_rules_233 rfl ?_
            refine j_if_ne (pc := 235) (tgt := 242) hK dX8_rules_235 (by decide) (fun c235 => ?_) (fun c235 => ?_)
            · refine j_iconst (pc := 242) (v := 0) hK dX8_rules_242 (by decide) ?_
              refine y_ast (pc := 243) (k := 27) hK rfl hy1 dX8_rules_243 ?_
              refine j_goto (pc := 244) (tgt := 440) hK dX8_rules_244 (by decide) ?_
              rw [ex]
              refine tail _ S1 _ _ _ _ ?_ (by unfold dp1; simp [hn7, c222]) (by omega) hst.2
              unfold ev1 b2i; simp [hn0', hn7, c222, c235]
            · refine j_iconst (pc := 238) (v := 1) hK dX8_rules_238 (by decide) ?_
              refine j_goto (pc := 239) (tgt := 243) hK dX8_rules_239 (by decide) ?_
              refine y_ast (pc := 243) (k := 27) hK rfl hy1 dX8_rules_243 ?_
              refine j_goto (pc := 244) (tgt := 440) hK dX8_rules_244 (by decide) ?_
              rw [ex]
              refine tail _ S1 _ _ _ _ ?_ (by unfold dp1; simp [hn7, c222]) (by omega) hst.2
              unfold ev1 b2i; simp [hn0', hn7, c222, c235]
        · refine j_aload_n (pc := 184) hK dX8_rules_184 rfl ?_
          refine y_getR (pc := 185) (k := 27) hK (by decide) rfl q1267 rfl dX8_rules_185 ?_
          refine j_iload (pc := 188) hK dX8_rules_188 rfl ?_
          refine j_iinc6 (pc := 190) (v := 1) hK dX8_rules_190 (by decide) rfl (by decide) ?_
          refine j_aload_n (pc := 193) hK dX8_rules_193 rfl ?_
          refine y_getR (pc := 194) (k := 28) hK (by decide) rfl q1268 rfl dX8_rules_194 ?_
          refine j_iload (pc := 197) hK dX8_rules_197 rfl ?_
          refine j_ineg (pc := 199) hK dX8_rules_199 ?_
          refine j_iconst (pc := 200) (v := 1) hK dX8_rules_200 (by decide) ?_
          refine j_isub (pc := 201) hK dX8_rules_201 ?_
          refine y_ald (pc := 202) (k := 28) hK rfl (pI7 c159 c181) dX8_rules_202 ?_
          rw [hnm (-c - 1) (pI5 c159 c181) (pI6 c159 c181)]
          refine y_ast (pc := 203) (k := 27) hK rfl hlt dX8_rules_203 ?_
          refine j_goto (pc := 204) (tgt := 440) hK dX8_rules_204 (by decide) ?_
          rw [nI_1]
          exact tail (nmF f g b cell minute (-c - 1)) S _ _ _ _ (by unfold ev1; rw [if_neg (pI2 c159), if_pos (pI3 c181)]) (by unfold dp1; rw [if_pos (pI3 c181)]) hS hst
      · refine j_aload_n (pc := 162) hK dX8_rules_162 rfl ?_
        refine y_getR (pc := 163) (k := 27) hK (by decide) rfl q1267 rfl dX8_rules_163 ?_
        refine j_iload (pc := 166) hK dX8_rules_166 rfl ?_
        refine j_iinc6 (pc := 168) (v := 1) hK dX8_rules_168 (by decide) rfl (by decide) ?_
        refine j_iload (pc := 171) hK dX8_rules_171 rfl ?_
        refine y_ast (pc := 173) (k := 27) hK rfl hlt dX8_rules_173 ?_
        refine j_goto (pc := 174) (tgt := 440) hK dX8_rules_174 (by decide) ?_
        rw [nI_1]
        exact tail c S _ _ _ _ (by unfold ev1; rw [if_pos (pI0 c159)]) (by unfold dp1; rw [if_pos (pI1 c159)]) hS hst
  refine j_aload_n (pc := 0) hK dX8_rules_0 rfl ?_
  refine y_getR (pc := 1) (k := 28) hK (by decide) rfl q1268 rfl dX8_rules_1 ?_
  refine j_iconst (pc := 4) (v := 0) hK dX8_rules_4 (by decide) ?_
  refine j_iload_n (pc := 5) hK dX8_rules_5 rfl ?_
  refine j_iconst (pc := 6) (v := 0) hK dX8_rules_6 (by decide) ?_
  refine j_callS (pc := 7) hK hQ (c_Yfar _ _) cal_X8_far q1395 dX8_rules_7 rfl rfl (nle rfl) (nle rfl) (nle rfl) (nle rfl) (kr_i fun r7 => ?_) kx_i
  refine J.pre fun e7 => ?_
  subst e7
  refine y_ast (pc := 10) (k := 28) hK rfl (vp_in_c (by decide)) dX8_rules_10 ?_
  refine j_aload_n (pc := 11) hK dX8_rules_11 rfl ?_
  refine y_getR (pc := 12) (k := 28) hK (by decide) rfl q1268 rfl dX8_rules_12 ?_
  refine j_iconst (pc := 15) (v := 1) hK dX8_rules_15 (by decide) ?_
  refine j_aload_n (pc := 16) hK dX8_rules_16 rfl ?_
  refine y_getI (pc := 17) (k := 9) hK (by decide) rfl q1249 rfl dX8_rules_17 ?_
  refine y_ast (pc := 20) (k := 28) hK rfl (vp_in_c (by decide)) dX8_rules_20 ?_
  refine j_aload_n (pc := 21) hK dX8_rules_21 rfl ?_
  refine y_getR (pc := 22) (k := 28) hK (by decide) rfl q1268 rfl dX8_rules_22 ?_
  refine j_iconst (pc := 25) (v := 2) hK dX8_rules_25 (by decide) ?_
  refine j_iload (pc := 26) hK dX8_rules_26 rfl ?_
  refine j_aload_n (pc := 28) hK dX8_rules_28 rfl ?_
  refine y_getR (pc := 29) (k := 4) hK (by decide) rfl q1244 rfl dX8_rules_29 ?_
  refine j_iload_n (pc := 32) hK dX8_rules_32 rfl ?_
  refine y_ald (pc := 33) (k := 4) hK rfl (by first | assumption | exact vp_in_c (by decide)) dX8_rules_33 ?_
  refine j_isub (pc := 34) hK dX8_rules_34 ?_
  refine j_aload_n (pc := 35) hK dX8_rules_35 rfl ?_
  refine y_getR (pc := 36) (k := 5) hK (by decide) rfl q1245 rfl dX8_rules_36 ?_
  refine j_iload_n (pc := 39) hK dX8_rules_39 rfl ?_
  refine y_ald (pc := 40) (k := 5) hK rfl (by first | assumption | exact vp_in_c (by decide)) dX8_rules_40 ?_
  refine j_isub (pc := 41) hK dX8_rules_41 ?_
  refine y_ast (pc := 42) (k := 28) hK rfl (vp_in_c (by decide)) dX8_rules_42 ?_
  refine j_aload_n (pc := 43) hK dX8_rules_43 rfl ?_
  refine y_getR (pc := 44) (k := 28) hK (by decide) rfl q1268 rfl dX8_rules_44 ?_
  refine j_iconst (pc := 47) (v := 3) hK dX8_rules_47 (by decide) ?_
  refine j_iload_n (pc := 48) hK dX8_rules_48 rfl ?_
  refine j_bipush (pc := 49) (v := 8) hK dX8_rules_49 (by decide) ?_
  refine j_idiv (pc := 51) hK dX8_rules_51 (by decide) ?_
  refine j_aload_n (pc := 52) hK dX8_rules_52 rfl ?_
  refine y_getI (pc := 53) (k := 8) hK (by decide) rfl q1248 rfl dX8_rules_53 ?_
  refine j_bipush (pc := 56) (v := 8) hK dX8_rules_56 (by decide) ?_
  refine j_idiv (pc := 58) hK dX8_rules_58 (by decide) ?_
  refine j_icmp_ne (pc := 59) (tgt := 80) hK dX8_rules_59 (by decide) (fun c59 => ?_) (fun c59 => ?_)
  · refine j_iconst (pc := 80) (v := 0) hK dX8_rules_80 (by decide) ?_
    refine y_ast (pc := 81) (k := 28) hK rfl (vp_in_c (by decide)) dX8_rules_81 ?_
    refine j_aload_n (pc := 82) hK dX8_rules_82 rfl ?_
    refine y_getR (pc := 83) (k := 28) hK (by decide) rfl q1268 rfl dX8_rules_83 ?_
    refine j_iconst (pc := 86) (v := 4) hK dX8_rules_86 (by decide) ?_
    refine j_iload_n (pc := 87) hK dX8_rules_87 rfl ?_
    refine y_ast (pc := 88) (k := 28) hK rfl (vp_in_c (by decide)) dX8_rules_88 ?_
    refine j_aload_n (pc := 89) hK dX8_rules_89 rfl ?_
    refine y_getR (pc := 90) (k := 28) hK (by decide) rfl q1268 rfl dX8_rules_90 ?_
    refine j_iconst (pc := 93) (v := 5) hK dX8_rules_93 (by decide) ?_
    refine j_iload (pc := 94) hK dX8_rules_94 rfl ?_
    refine y_ast (pc := 96) (k := 28) hK rfl (vp_in_c (by decide)) dX8_rules_96 ?_
    refine J.name (F := fun z => J Γ A K 97 _ _ (YW Γ L f1 z) 0 0) _ (fun g5 eg5 => ?_)
    have hsm5 : Same2 g1 g5 := by rw [eg5]; exact (((((Same2.put (fun _ _ _ _ => rfl) (Or.inr rfl)).put (Or.inr rfl)).put (Or.inr rfl)).put (Or.inr rfl)).put (Or.inr rfl)).put (Or.inr rfl)
    have hnm5 : ∀ j : Int32, 0 ≤ j → j ≤ 5 → g5 28 j = nmF f g b cell minute j := by
      rw [eg5]
      refine nm6 rfl (by rw [e9]; rfl) (by show minute - g1 4 b - g1 5 b = _; rw [(he 4 rfl).2 b, (he 5 rfl).2 b]; rfl) ?_ rfl rfl
      show _ = b2i (cell / 8 = f 8 / 8 ∧ f 8 % 8 < cell % 8)
      first | exact hid0a (by rw [e8] at c59; exact c59) | exact hid0b (by rw [e8] at c73; exact c73) | exact hid1 (by rw [e8] at c59; exact c59) (by rw [e8] at c73; exact c73)
    refine j_aload_n (pc := 97) hK dX8_rules_97 rfl ?_
    refine y_getR (pc := 98) (k := 20) hK (by decide) rfl q1260 rfl dX8_rules_98 ?_
    refine j_iconst (pc := 101) (v := 4) hK dX8_rules_101 (by decide) ?_
    refine j_aload_n (pc := 102) hK dX8_rules_102 rfl ?_
    refine y_getI (pc := 103) (k := 18) hK (by decide) rfl q1258 rfl dX8_rules_103 ?_
    refine j_imul (pc := 106) hK dX8_rules_106 ?_
    refine j_iload_n (pc := 107) hK dX8_rules_107 rfl ?_
    refine j_iadd (pc := 108) hK dX8_rules_108 ?_
    refine j_iconst (pc := 109) (v := 1) hK dX8_rules_109 (by decide) ?_
    refine j_iadd (pc := 110) hK dX8_rules_110 ?_
    refine y_ald (pc := 111) (k := 20) hK rfl (by rw [e18]; exact hend) dX8_rules_111 ?_
    rw [hsm5 20 (by decide) (by decide), e18, eend, hn1.1]
    refine j_ist5 (pc := 112) hK dX8_rules_112 (by decide) rfl ?_
    refine j_iconst (pc := 114) (v := 0) hK dX8_rules_114 (by decide) ?_
    refine j_ist6 (pc := 115) hK dX8_rules_115 (by decide) rfl ?_
    refine j_aload_n (pc := 117) hK dX8_rules_117 rfl ?_
    refine y_getR (pc := 118) (k := 20) hK (by decide) rfl q1260 rfl dX8_rules_118 ?_
    refine j_iconst (pc := 121) (v := 4) hK dX8_rules_121 (by decide) ?_
    refine j_aload_n (pc := 122) hK dX8_rules_122 rfl ?_
    refine y_getI (pc := 123) (k := 18) hK (by decide) rfl q1258 rfl dX8_rules_123 ?_
    refine j_imul (pc := 126) hK dX8_rules_126 ?_
    refine j_iload_n (pc := 127) hK dX8_rules_127 rfl ?_
    refine j_iadd (pc := 128) hK dX8_rules_128 ?_
    refine y_ald (pc := 129) (k := 20) hK rfl (by rw [e18]; exact hbeg) dX8_rules_129 ?_
    rw [hsm5 20 (by decide) (by decide), e18, hn0.1]
    refine j_ist7 (pc := 130) hK dX8_rules_130 (by decide) rfl ?_
    exact loop _ 0 [] g5 (by simp) (fun i hi => by rw [Nat.zero_add]; exact (hc which hw).2 i hi) hd0 (Nat.le_refl _) rfl trivial hnm5 hsm5
  · refine j_iload_n (pc := 62) hK dX8_rules_62 rfl ?_
    refine j_bipush (pc := 63) (v := 8) hK dX8_rules_63 (by decide) ?_
    refine j_irem (pc := 65) hK dX8_rules_65 (by decide) ?_
    refine j_aload_n (pc := 66) hK dX8_rules_66 rfl ?_
    refine y_getI (pc := 67) (k := 8) hK (by decide) rfl q1248 rfl dX8_rules_67 ?_
    refine j_bipush (pc := 70) (v := 8) hK dX8_rules_70 (by decide) ?_
    refine j_irem (pc := 72) hK dX8_rules_72 (by decide) ?_
    refine j_icmp_le (pc := 73) (tgt := 80) hK dX8_rules_73 (by decide) (fun c73 => ?_) (fun c73 => ?_)
    · refine j_iconst (pc := 80) (v := 0) hK dX8_rules_80 (by decide) ?_
      refine y_ast (pc := 81) (k := 28) hK rfl (vp_in_c (by decide)) dX8_rules_81 ?_
      refine j_aload_n (pc := 82) hK dX8_rules_82 rfl ?_
      refine y_getR (pc := 83) (k := 28) hK (by decide) rfl q1268 rfl dX8_rules_83 ?_
      refine j_iconst (pc := 86) (v := 4) hK dX8_rules_86 (by decide) ?_
      refine j_iload_n (pc := 87) hK dX8_rules_87 rfl ?_
      refine y_ast (pc := 88) (k := 28) hK rfl (vp_in_c (by decide)) dX8_rules_88 ?_
      refine j_aload_n (pc := 89) hK dX8_rules_89 rfl ?_
      refine y_getR (pc := 90) (k := 28) hK (by decide) rfl q1268 rfl dX8_rules_90 ?_
      refine j_iconst (pc := 93) (v := 5) hK dX8_rules_93 (by decide) ?_
      refine j_iload (pc := 94) hK dX8_rules_94 rfl ?_
      refine y_ast (pc := 96) (k := 28) hK rfl (vp_in_c (by decide)) dX8_rules_96 ?_
      refine J.name (F := fun z => J Γ A K 97 _ _ (YW Γ L f1 z) 0 0) _ (fun g5 eg5 => ?_)
      have hsm5 : Same2 g1 g5 := by rw [eg5]; exact (((((Same2.put (fun _ _ _ _ => rfl) (Or.inr rfl)).put (Or.inr rfl)).put (Or.inr rfl)).put (Or.inr rfl)).put (Or.inr rfl)).put (Or.inr rfl)
      have hnm5 : ∀ j : Int32, 0 ≤ j → j ≤ 5 → g5 28 j = nmF f g b cell minute j := by
        rw [eg5]
        refine nm6 rfl (by rw [e9]; rfl) (by show minute - g1 4 b - g1 5 b = _; rw [(he 4 rfl).2 b, (he 5 rfl).2 b]; rfl) ?_ rfl rfl
        show _ = b2i (cell / 8 = f 8 / 8 ∧ f 8 % 8 < cell % 8)
        first | exact hid0a (by rw [e8] at c59; exact c59) | exact hid0b (by rw [e8] at c73; exact c73) | exact hid1 (by rw [e8] at c59; exact c59) (by rw [e8] at c73; exact c73)
      refine j_aload_n (pc := 97) hK dX8_rules_97 rfl ?_
      refine y_getR (pc := 98) (k := 20) hK (by decide) rfl q1260 rfl dX8_rules_98 ?_
      refine j_iconst (pc := 101) (v := 4) hK dX8_rules_101 (by decide) ?_
      refine j_aload_n (pc := 102) hK dX8_rules_102 rfl ?_
      refine y_getI (pc := 103) (k := 18) hK (by decide) rfl q1258 rfl dX8_rules_103 ?_
      refine j_imul (pc := 106) hK dX8_rules_106 ?_
      refine j_iload_n (pc := 107) hK dX8_rules_107 rfl ?_
      refine j_iadd (pc := 108) hK dX8_rules_108 ?_
      refine j_iconst (pc := 109) (v := 1) hK dX8_rules_109 (by decide) ?_
      refine j_iadd (pc := 110) hK dX8_rules_110 ?_
      refine y_ald (pc := 111) (k := 20) hK rfl (by rw [e18]; exact hend) dX8_rules_111 ?_
      rw [hsm5 20 (by decide) (by decide), e18, eend, hn1.1]
      refine j_ist5 (pc := 112) hK dX8_rules_112 (by decide) rfl ?_
      refine j_iconst (pc := 114) (v := 0) hK dX8_rules_114 (by decide) ?_
      refine j_ist6 (pc := 115) hK dX8_rules_115 (by decide) rfl ?_
      refine j_aload_n (pc := 117) hK dX8_rules_117 rfl ?_
      refine y_getR (pc := 118) (k := 20) hK (by decide) rfl q1260 rfl dX8_rules_118 ?_
      refine j_iconst (pc := 121) (v := 4) hK dX8_rules_121 (by decide) ?_
      refine j_aload_n (pc := 122) hK dX8_rules_122 rfl ?_
      refine y_getI (pc := 123) (k := 18) hK (by decide) rfl q1258 rfl dX8_rules_123 ?_
      refine j_imul (pc := 126) hK dX8_rules_126 ?_
      refine j_iload_n (pc := 127) hK dX8_rules_127 rfl ?_
      refine j_iadd (pc := 128) hK dX8_rules_128 ?_
      refine y_ald (pc := 129) (k := 20) hK rfl (by rw [e18]; exact hbeg) dX8_rules_129 ?_
      rw [hsm5 20 (by decide) (by decide), e18, hn0.1]
      refine j_ist7 (pc := 130) hK dX8_rules_130 (by decide) rfl ?_
      exact loop _ 0 [] g5 (by simp) (fun i hi => by rw [Nat.zero_add]; exact (hc which hw).2 i hi) hd0 (Nat.le_refl _) rfl trivial hnm5 hsm5
    · refine j_iconst (pc := 76) (v := 1) hK dX8_rules_76 (by decide) ?_
      refine j_goto (pc := 77) (tgt := 81) hK dX8_rules_77 (by decide) ?_
      refine y_ast (pc := 81) (k := 28) hK rfl (vp_in_c (by decide)) dX8_rules_81 ?_
      refine j_aload_n (pc := 82) hK dX8_rules_82 rfl ?_
      refine y_getR (pc := 83) (k := 28) hK (by decide) rfl q1268 rfl dX8_rules_83 ?_
      refine j_iconst (pc := 86) (v := 4) hK dX8_rules_86 (by decide) ?_
      refine j_iload_n (pc := 87) hK dX8_rules_87 rfl ?_
      refine y_ast (pc := 88) (k := 28) hK rfl (vp_in_c (by decide)) dX8_rules_88 ?_
      refine j_aload_n (pc := 89) hK dX8_rules_89 rfl ?_
      refine y_getR (pc := 90) (k := 28) hK (by decide) rfl q1268 rfl dX8_rules_90 ?_
      refine j_iconst (pc := 93) (v := 5) hK dX8_rules_93 (by decide) ?_
      refine j_iload (pc := 94) hK dX8_rules_94 rfl ?_
      refine y_ast (pc := 96) (k := 28) hK rfl (vp_in_c (by decide)) dX8_rules_96 ?_
      refine J.name (F := fun z => J Γ A K 97 _ _ (YW Γ L f1 z) 0 0) _ (fun g5 eg5 => ?_)
      have hsm5 : Same2 g1 g5 := by rw [eg5]; exact (((((Same2.put (fun _ _ _ _ => rfl) (Or.inr rfl)).put (Or.inr rfl)).put (Or.inr rfl)).put (Or.inr rfl)).put (Or.inr rfl)).put (Or.inr rfl)
      have hnm5 : ∀ j : Int32, 0 ≤ j → j ≤ 5 → g5 28 j = nmF f g b cell minute j := by
        rw [eg5]
        refine nm6 rfl (by rw [e9]; rfl) (by show minute - g1 4 b - g1 5 b = _; rw [(he 4 rfl).2 b, (he 5 rfl).2 b]; rfl) ?_ rfl rfl
        show _ = b2i (cell / 8 = f 8 / 8 ∧ f 8 % 8 < cell % 8)
        first | exact hid0a (by rw [e8] at c59; exact c59) | exact hid0b (by rw [e8] at c73; exact c73) | exact hid1 (by rw [e8] at c59; exact c59) (by rw [e8] at c73; exact c73)
      refine j_aload_n (pc := 97) hK dX8_rules_97 rfl ?_
      refine y_getR (pc := 98) (k := 20) hK (by decide) rfl q1260 rfl dX8_rules_98 ?_
      refine j_iconst (pc := 101) (v := 4) hK dX8_rules_101 (by decide) ?_
      refine j_aload_n (pc := 102) hK dX8_rules_102 rfl ?_
      refine y_getI (pc := 103) (k := 18) hK (by decide) rfl q1258 rfl dX8_rules_103 ?_
      refine j_imul (pc := 106) hK dX8_rules_106 ?_
      refine j_iload_n (pc := 107) hK dX8_rules_107 rfl ?_
      refine j_iadd (pc := 108) hK dX8_rules_108 ?_
      refine j_iconst (pc := 109) (v := 1) hK dX8_rules_109 (by decide) ?_
      refine j_iadd (pc := 110) hK dX8_rules_110 ?_
      refine y_ald (pc := 111) (k := 20) hK rfl (by rw [e18]; exact hend) dX8_rules_111 ?_
      rw [hsm5 20 (by decide) (by decide), e18, eend, hn1.1]
      refine j_ist5 (pc := 112) hK dX8_rules_112 (by decide) rfl ?_
      refine j_iconst (pc := 114) (v := 0) hK dX8_rules_114 (by decide) ?_
      refine j_ist6 (pc := 115) hK dX8_rules_115 (by decide) rfl ?_
      refine j_aload_n (pc := 117) hK dX8_rules_117 rfl ?_
      refine y_getR (pc := 118) (k := 20) hK (by decide) rfl q1260 rfl dX8_rules_118 ?_
      refine j_iconst (pc := 121) (v := 4) hK dX8_rules_121 (by decide) ?_
      refine j_aload_n (pc := 122) hK dX8_rules_122 rfl ?_
      refine y_getI (pc := 123) (k := 18) hK (by decide) rfl q1258 rfl dX8_rules_123 ?_
      refine j_imul (pc := 126) hK dX8_rules_126 ?_
      refine j_iload_n (pc := 127) hK dX8_rules_127 rfl ?_
      refine j_iadd (pc := 128) hK dX8_rules_128 ?_
      refine y_ald (pc := 129) (k := 20) hK rfl (by rw [e18]; exact hbeg) dX8_rules_129 ?_
      rw [hsm5 20 (by decide) (by decide), e18, hn0.1]
      refine j_ist7 (pc := 130) hK dX8_rules_130 (by decide) rfl ?_
      exact loop _ 0 [] g5 (by simp) (fun i hi => by rw [Nat.zero_add]; exact (hc which hw).2 i hi) hd0 (Nat.le_refl _) rfl trivial hnm5 hsm5
end Y5
