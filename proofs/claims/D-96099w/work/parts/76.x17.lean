/-! the class reads: either, both, not, plus, times, one -/
set_option maxRecDepth 100000
section P76
variable {t : Nat → Int32} {n : Nat}
theorem bad_l1 {m p o : Nat} {x : Nat × Option (List Int32)} (h : ¬ gd t n p) (e : pr t n m 1 p o = some x) : x = (p, some []) := by
  cases m with
  | zero => cases e
  | succ m => rw [pr_1, if_neg (show ¬ isW t n p wOr from bad_w (k := 3) (by decide) h)] at e; exact (Option.some.inj e).symm
theorem bad_l3 {m p o : Nat} {x : Nat × Option (List Int32)} (h : ¬ gd t n p) (e : pr t n m 3 p o = some x) : x = (p, some []) := by
  cases m with
  | zero => cases e
  | succ m => rw [pr_3, if_neg (show ¬ isW t n p wAnd from bad_w (k := 4) (by decide) h)] at e; exact (Option.some.inj e).symm
theorem bad_l6 {m p o : Nat} {x : Nat × Option (List Int32)} (h : ¬ gd t n p) (e : pr t n m 6 p o = some x) : x = (p, some []) := by
  cases m with
  | zero => cases e
  | succ m => rw [pr_6, if_neg (fun z => z.elim (bad_s h) (bad_s h))] at e; exact (Option.some.inj e).symm
theorem bad_l8 {m p o : Nat} {x : Nat × Option (List Int32)} (h : ¬ gd t n p) (e : pr t n m 8 p o = some x) : x = (p, some []) := by
  cases m with
  | zero => cases e
  | succ m => rw [pr_8, if_neg (bad_s h)] at e; exact (Option.some.inj e).symm
theorem ext_nil (x : Nat × Option (List Int32)) : ext [] x = x := by
  obtain ⟨a, b⟩ := x
  cases b <;> rfl
theorem nt_two {S : PH} {o a a1 b : Nat} {c1 c2 : List Int32} {sg op : Int32} (h1 : NTe S o a1 c1) (h2 : NTe S o b c2) (ha : S a = none) (hm : (sg, op) ∈ ([(124, -11), (38, -12), (60, -14), (61, -15), (43, -16), (45, -17), (42, -18)] : List (Int32 × Int32))) : NTe (pu S a (.inr (6, [.int sg, .ref a1, .ref b]))) o a (c1 ++ (c2 ++ [op])) := by
  obtain ⟨n1, w1⟩ := h1
  obtain ⟨n2, w2⟩ := h2
  refine ⟨max n1 n2 + 1, Or.inr (Or.inr (Or.inr ⟨a1, b, c1, c2, sg, op, (List.append_assoc _ _ _).symm, hm, pu_self _ _ _, ?_, ?_⟩))⟩
  · exact NT.kept (KN.new _ ha) _ _ _ _ (NT.up _ _ _ _ _ _ (by omega) w1)
  · exact NT.kept (KN.new _ ha) _ _ _ _ (NT.up _ _ _ _ _ _ (by omega) w2)
theorem nt_turn {S : PH} {o a a1 : Nat} {c1 : List Int32} {m : Int32} (h1 : NTe S o a1 c1) (ha : S a = none) (hm : m = 0 ∨ m = 1) : NTe (pu S a (.inr (3, [.ref a1, .int m]))) o a (c1 ++ [if m = 0 then -13 else -19]) := by
  obtain ⟨n1, w1⟩ := h1
  exact ⟨n1 + 1, Or.inr (Or.inr (Or.inl ⟨a1, c1, m, rfl, hm, pu_self _ _ _, NT.kept (KN.new _ ha) _ _ _ _ w1⟩))⟩
theorem nt_num {S : PH} {o a : Nat} {v : Int32} (hv : 0 ≤ v) : NTe (pu S a (.inr (4, [.int v]))) o a [v] := ⟨1, Or.inl ⟨v, hv, rfl, pu_self _ _ _⟩⟩
theorem nt_name {S : PH} {o a : Nat} {w : Int32} (h0 : 0 ≤ w) (h5 : w ≤ 5) : NTe (pu S a (.inr (5, [.int w, .ref o]))) o a [-w - 1] := ⟨1, Or.inr (Or.inl ⟨w, h0, h5, rfl, pu_self _ _ _⟩)⟩
end P76
section X76
variable {Γ : Gam} {A : Nat → Prop} {L : Nat → Nat} {f : Nat → Int32} {g : Nat → Int32 → Int32} {T : TX} {t : Nat → Int32} {n m o : Nat} {S : PH} {x : Nat × Option (List Int32)} {R : PH → Prop} {φ : XD → Prop}
def PR (Γ : Gam) (L : Nat → Nat) (f : Nat → Int32) (g : Nat → Int32 → Int32) (T : TX) (t : Nat → Int32) (n o : Nat) (S : PH) (x : Nat × Option (List Int32)) (r : Value) (h : PH) : Prop := ∃ c a S', x.2 = some c ∧ gd t n x.1 ∧ r = .ref a ∧ Sb S S' ∧ NoX S' ∧ NTe S' (L 35) a c ∧ XQ Γ L f g T (TK t n x.1 o) (Sb S') h
def PE (Γ : Gam) (L : Nat → Nat) (f : Nat → Int32) (g : Nat → Int32 → Int32) (T : TX) (t : Nat → Int32) (n : Nat) (x : Nat × Option (List Int32)) (e : Nat) (h : PH) : Prop := e = L 10 ∧ (x.2 = none ∨ ¬ gd t n x.1) ∧ XQ Γ L f g T (BG t n x.1) (fun _ => True) h
def PZ (Γ : Gam) (L : Nat → Nat) (f : Nat → Int32) (g : Nat → Int32 → Int32) (T : TX) (t : Nat → Int32) (n o : Nat) (S : PH) (x : Nat × Option (List Int32)) : Outcome → PH → Prop := RT (RR (PR Γ L f g T t n o S x)) (PE Γ L f g T t n x)
theorem PZ.thr {u e : Nat} {h : PH} (h1 : x.1 = u) (h2 : x.2 = none ∨ ¬ gd t n u) (he : e = L 10) (w : XQ Γ L f g T (BG t n u) R h) : PZ Γ L f g T t n o S x (.threw e) h := by
  subst h1
  exact Or.inr ⟨e, rfl, he, h2, w.1, trivial⟩
theorem PZ.ret {u a : Nat} {c : List Int32} {S' h : PH} (h1 : x = (u, some c)) (hg : gd t n u) (hS : Sb S S') (hX : NoX S') (hN : NTe S' (L 35) a c) (w : XQ Γ L f g T (TK t n u o) (Sb S') h) : PZ Γ L f g T t n o S x (.returned (some (.ref a))) h := by
  subst h1
  exact Or.inl ⟨_, rfl, c, a, S', rfl, hg, rfl, hS, hX, hN, w⟩
theorem pz_open {K : JC} {pc : Nat} {ls : List (Option Value)} {st : List Value} {cs ss : Nat} {r : Value} (k : ∀ c a S', x.2 = some c → gd t n x.1 → Sb S S' → NoX S' → NTe S' (L 35) a c → J Γ A K pc ls (.ref a :: st) (XQ Γ L f g T (TK t n x.1 o) (Sb S')) cs ss) : J Γ A K pc ls (r :: st) (PR Γ L f g T t n o S x r) cs ss := fun h H locs arr ⟨c, a, S', h1, h2, h3, h4, h5, h6, w⟩ hR hL => by
  subst h3
  exact k c a S' h1 h2 h4 h5 h6 h H locs arr w hR hL
/-- a raw object of two, beside the world -/
theorem xq_raw {K : JC} {pc : Nat} {ls : List (Option Value)} {st : List Value} {cs ss a : Nat} (hX : NoX S) (k : S a = none → J Γ A K pc ls st (XQ Γ L f g T φ (Sb (pu S a raw7))) cs ss) : J Γ A K pc ls st (fun h => ∃ h0, XQ Γ L f g T φ (Sb S) h0 ∧ h0 a = none ∧ h = pu h0 a (.inr (6, [.int 0, .null, .null]))) cs ss := fun h H locs arr ⟨h0, w, ha, e⟩ hR hL => by
  subst e
  exact k (w.2.no ha) _ H locs arr ⟨w.1.fresh _ ha, w.2.puS _ _⟩ hR hL
/-- it is taken out again, to be made -/
theorem xq_out {S2 h : PH} {a : Nat} (hS : Sb (pu S a raw7) S2) (w : XQ Γ L f g T φ (Sb S2) h) : NBg (XQ Γ L f g T φ (Sb (del S2 a))) a (.inr (6, [.int 0, .null, .null])) h := by
  have h2 : S2 a = some raw7 := hS a _ (pu_self _ _ _)
  have h3 : h a = some raw7 := w.2 _ _ h2
  exact ⟨del h a, ⟨w.1.dl h3, w.2.dl⟩, del_s, del_pu h3⟩
/-- a made object joins -/
theorem xq_in {h : PH} {a : Nat} {e : va_E} (w : NBg (XQ Γ L f g T φ (Sb S)) a e h) : XQ Γ L f g T φ (Sb (pu S a e)) h := by
  obtain ⟨h0, w, ha, e⟩ := w
  subst e
  exact ⟨w.1.fresh _ ha, w.2.puS _ _⟩
theorem nbg_no {K : JC} {pc : Nat} {ls : List (Option Value)} {st : List Value} {cs ss a : Nat} {e : va_E} (k : S a = none → J Γ A K pc ls st (NBg (XQ Γ L f g T φ (Sb S)) a e) cs ss) : J Γ A K pc ls st (NBg (XQ Γ L f g T φ (Sb S)) a e) cs ss := fun h H locs arr w hR hL => k (by obtain ⟨h0, w, ha, _⟩ := w; exact w.2.no ha) h H locs arr w hR hL
theorem c_XisKeyC {p k : Nat} {c : Int32} (hφ : ∀ x, φ x → TKf t n p x) (h6 : k < 6) (hc : nI k = c) : Ct Γ A yX0_isKey wX0_isKey 1 0 0 [.ref (L 35), .int c] (XQ Γ L f g T φ R) (RI fun r h => r = b2i (isW t n p (wKeys.getD k [])) ∧ XQ Γ L f g T φ R h) := hc ▸ c_XisKey hφ h6
theorem sb_step {S1 S2 : PH} {a : Nat} {e : va_E} (h1 : S1 a = none) (hS : Sb (pu S1 a raw7) S2) : Sb S1 (pu (del S2 a) a e) := fun b y q => by
  have hb : b ≠ a := fun z => by rw [z, h1] at q; cases q
  rw [pu_ne _ _ hb, del_ne hb]
  exact hS b y (by rw [pu_ne _ _ hb]; exact q)
theorem sb_stepD {S1 S2 : PH} {a : Nat} (h1 : S1 a = none) (hS : Sb (pu S1 a raw7) S2) : Sb S1 (del S2 a) := fun b y q => by
  have hb : b ≠ a := fun z => by rw [z, h1] at q; cases q
  rw [del_ne hb]
  exact hS b y (by rw [pu_ne _ _ hb]; exact q)
theorem NTe.dl {S1 S2 : PH} {o a b : Nat} {c : List Int32} (hS : Sb (pu S1 a raw7) S2) (w : NTe S2 o b c) : NTe (del S2 a) o b c := ⟨_, NT.dl (hS a _ (pu_self _ _ _)) _ _ _ _ w.choose_spec⟩
def XCa (Γ : Gam) (A : Nat → Prop) (L : Nat → Nat) (f : Nat → Int32) (g : Nat → Int32 → Int32) (T : TX) (t : Nat → Int32) (n m : Nat) : Prop := ∀ (p o : Nat) (S : PH) (x : Nat × Option (List Int32)), p ≤ n → o ≤ 5 → NoX S → gd t n p → pr t n m 0 p o = some x → Ct Γ A yX0_either wX0_either (8 * (5 - o) + 15) (x.1 - p) (3 * (x.1 - p)) [.ref (L 35)] (XQ Γ L f g T (TK t n p o) (Sb S)) (PZ Γ L f g T t n o S x)
def XCb (Γ : Gam) (A : Nat → Prop) (L : Nat → Nat) (f : Nat → Int32) (g : Nat → Int32 → Int32) (T : TX) (t : Nat → Int32) (n m : Nat) : Prop := ∀ (p o : Nat) (S : PH) (x : Nat × Option (List Int32)), p ≤ n → o ≤ 5 → NoX S → gd t n p → pr t n m 2 p o = some x → Ct Γ A yX0_both wX0_both (8 * (5 - o) + 14) (x.1 - p) (3 * (x.1 - p)) [.ref (L 35)] (XQ Γ L f g T (TK t n p o) (Sb S)) (PZ Γ L f g T t n o S x)
def XCn (Γ : Gam) (A : Nat → Prop) (L : Nat → Nat) (f : Nat → Int32) (g : Nat → Int32 → Int32) (T : TX) (t : Nat → Int32) (n m : Nat) : Prop := ∀ (p o : Nat) (S : PH) (x : Nat × Option (List Int32)), p ≤ n → o ≤ 5 → NoX S → gd t n p → pr t n m 4 p o = some x → Ct Γ A yX0_not wX0_not (8 * (5 - o) + 13) (x.1 - p) (3 * (x.1 - p)) [.ref (L 35)] (XQ Γ L f g T (TK t n p o) (Sb S)) (PZ Γ L f g T t n o S x)
def XCs (Γ : Gam) (A : Nat → Prop) (L : Nat → Nat) (f : Nat → Int32) (g : Nat → Int32 → Int32) (T : TX) (t : Nat → Int32) (n m : Nat) : Prop := ∀ (p o : Nat) (S : PH) (x : Nat × Option (List Int32)), p ≤ n → o ≤ 5 → NoX S → gd t n p → pr t n m 5 p o = some x → Ct Γ A yX0_plus wX0_plus (8 * (5 - o) + 12) (x.1 - p) (3 * (x.1 - p)) [.ref (L 35)] (XQ Γ L f g T (TK t n p o) (Sb S)) (PZ Γ L f g T t n o S x)
def XCt (Γ : Gam) (A : Nat → Prop) (L : Nat → Nat) (f : Nat → Int32) (g : Nat → Int32 → Int32) (T : TX) (t : Nat → Int32) (n m : Nat) : Prop := ∀ (p o : Nat) (S : PH) (x : Nat × Option (List Int32)), p ≤ n → o ≤ 5 → NoX S → gd t n p → pr t n m 7 p o = some x → Ct Γ A yX0_times wX0_times (8 * (5 - o) + 11) (x.1 - p) (3 * (x.1 - p)) [.ref (L 35)] (XQ Γ L f g T (TK t n p o) (Sb S)) (PZ Γ L f g T t n o S x)
def XCo (Γ : Gam) (A : Nat → Prop) (L : Nat → Nat) (f : Nat → Int32) (g : Nat → Int32 → Int32) (T : TX) (t : Nat → Int32) (n m : Nat) : Prop := ∀ (p o : Nat) (S : PH) (x : Nat × Option (List Int32)), p ≤ n → o ≤ 5 → NoX S → gd t n p → pr t n m 9 p o = some x → Ct Γ A yX0_one wX0_one (8 * (5 - o) + 10) (x.1 - p) (3 * (x.1 - p)) [.ref (L 35)] (XQ Γ L f g T (TK t n p o) (Sb S)) (PZ Γ L f g T t n o S x)
theorem NoX.st' {S : PH} (h : NoX S) : StR (Sb S) := Sb.st h
theorem s_Xeither (hn : n ≤ 160) (IH : ∀ j, j ≤ m → XCb Γ A L f g T t n j) : XCa Γ A L f g T t n (m + 1) := by
  intro p o S x hp ho hX hg hx
  rw [pr_0] at hx
  refine Ct.of (cc := cX0_either) (nL := 2) (ret := (some (.object "BoatsCalledIn$Node"))) (ls := [some (.ref (L 35)), none]) rfl rfl rfl (nle rfl) ?_
  intro K hK hQ
  have loop : ∀ (j : Nat), j ≤ m → ∀ (q : Nat) (S1 : PH) (a1 : Nat) (c1 : List Int32) (y : Nat × Option (List Int32)), p ≤ q → q ≤ n → gd t n q → Sb S S1 → NoX S1 → NTe S1 (L 35) a1 c1 → pr t n j 1 q o = some y → ext c1 y = x → J Γ A K 5 [some (.ref (L 35)), some (.ref a1)] [] (XQ Γ L f g T (TK t n q o) (Sb S1)) (q - p) (3 * (q - p)) := by
    intro j
    induction j with
    | zero => intro _ q S1 a1 c1 y _ _ _ _ _ _ h; cases h
    | succ j ihj =>
      intro hj q S1 a1 c1 y hpq hq hgq hS1 hX1 hN1 hy hz
      rw [pr_1] at hy
      have hE := en_le (t := t) hq
      by_cases hw : isW t n q wOr
      · rw [if_pos hw] at hy
        have hgt := en_gt hq (isW_0 hw)
        rcases sq_x hy with ⟨u, e1, rfl⟩ | ⟨u, d, y', e1, e2, e3⟩
        · have e4 := ap_y e1
          have hl := (pr_len _ _ _ _ _ hE.2.1 e4)
          have hx1 : x.1 = u := by rw [← hz]; rfl
          have hx2 : x.2 = none := by rw [← hz]; rfl
          have hl0 : enP t n q ≤ u := hl.1
          have hb : ∀ S2, NoX S2 → gd t n (enP t n q) → Ct Γ A yX0_both wX0_both (8 * (5 - o) + 14) (u - enP t n q) (3 * (u - enP t n q)) [.ref (L 35)] (XQ Γ L f g T (TK t n (enP t n q) o) (Sb S2)) (PZ Γ L f g T t n o S2 (u, none)) := fun S2 h2 h3 => IH j (by omega) (enP t n q) o S2 (u, none) hE.2.1 ho h2 h3 e4
          refine j_aload_n (pc := 5) hK dX0_either_5 rfl ?_
          refine j_iconst (pc := 6) (v := 3) hK dX0_either_6 (by decide) ?_
          refine j_callV (pc := 7) hK hQ (c_XisKeyC (k := 3) (fun _ e => e.2.2) (by decide) rfl) cal_X0_isKey xq_isC q529 dX0_either_7 rfl rfl (by omega) (by omega) (by omega) (nle rfl) (kr_i fun r7 => ?_) kx_i
          refine J.pre fun e7 => ?_
          subst e7
          refine j_if_eq_b (pc := 10) (tgt := 35) hK dX0_either_10 (by decide) (fun c10 => absurd hw c10) (fun c10 => ?_)
          refine j_aload_n (pc := 13) hK dX0_either_13 rfl ?_
          refine J.mono (xq_mono (fun _ e => e.1)) ?_
          refine j_callV (pc := 14) hK hQ (c_Xnext hX1.st' hn hE.2.1) cal_X0_next xq_isC q395 dX0_either_14 rfl rfl (by omega) (by omega) (by omega) (nle rfl) (kr_t (kr_v ?_)) (kx_t nt_v fun x => jt_leave hK hQ (by decide) (by omega) (by omega) (fun h w => PZ.thr (hx1.trans (congrArg Prod.fst (bad_2 w.2.1 e4))) (Or.inl hx2) w.1 w.2.2))
          refine J.pre fun hgE => ?_
          refine j_new (pc := 17) (ci := 6) (fs := [.int 0, .null, .null]) hK hQ rfl in_X7 tyX7_ok q609 q610 q86 (by decide) (by omega) (by omega) dX0_either_17 (fun a17 => ?_)
          refine xq_raw hX1 fun hno => ?_
          refine j_dup (pc := 20) hK dX0_either_20 rfl ?_
          refine j_bipush (pc := 21) (v := 124) hK dX0_either_21 (by decide) ?_
          refine j_aload_n (pc := 23) hK dX0_either_23 rfl ?_
          refine j_aload_n (pc := 24) hK dX0_either_24 rfl ?_
          refine j_callV (pc := 25) hK hQ (hb (pu S1 a17 raw7) (hX1.puS _ (by decide)) hgE) cal_X0_both xq_isC q541 dX0_either_25 rfl rfl (by omega) (by omega) (by omega) (nle rfl) (kr_t (kr_r fun r25 => ?_)) (kx_t nt_r fun x => jt_leave hK hQ (by decide) (by omega) (by omega) (fun h w => PZ.thr hx1 (Or.inl hx2) w.1 w.2.2))
          exact pz_open fun c a S' z => by cases z
        · obtain ⟨c, e4, rfl⟩ := ap_x e1
          have hl := (pr_len _ _ _ _ _ hE.2.1 e4)
          have hl0 : enP t n q ≤ u := hl.1
          have hl1 : u ≤ n := hl.2.1
          have hl2 := (pr_len _ _ _ _ _ hl1 e2)
          have hxy : ext (c1 ++ (c ++ [-11])) y' = x := (e3 c1).trans hz
          have hx1 : x.1 = y'.1 := by rw [← hxy]; rfl
          have hl3 : u ≤ y'.1 := hl2.1
          have hb : ∀ S2, NoX S2 → gd t n (enP t n q) → Ct Γ A yX0_both wX0_both (8 * (5 - o) + 14) (u - enP t n q) (3 * (u - enP t n q)) [.ref (L 35)] (XQ Γ L f g T (TK t n (enP t n q) o) (Sb S2)) (PZ Γ L f g T t n o S2 (u, some c)) := fun S2 h2 h3 => IH j (by omega) (enP t n q) o S2 (u, some c) hE.2.1 ho h2 h3 e4
          refine j_aload_n (pc := 5) hK dX0_either_5 rfl ?_
          refine j_iconst (pc := 6) (v := 3) hK dX0_either_6 (by decide) ?_
          refine j_callV (pc := 7) hK hQ (c_XisKeyC (k := 3) (fun _ e => e.2.2) (by decide) rfl) cal_X0_isKey xq_isC q529 dX0_either_7 rfl rfl (by omega) (by omega) (by omega) (nle rfl) (kr_i fun r7 => ?_) kx_i
          refine J.pre fun e7 => ?_
          subst e7
          refine j_if_eq_b (pc := 10) (tgt := 35) hK dX0_either_10 (by decide) (fun c10 => absurd hw c10) (fun c10 => ?_)
          refine j_aload_n (pc := 13) hK dX0_either_13 rfl ?_
          refine J.mono (xq_mono (fun _ e => e.1)) ?_
          refine j_callV (pc := 14) hK hQ (c_Xnext hX1.st' hn hE.2.1) cal_X0_next xq_isC q395 dX0_either_14 rfl rfl (by omega) (by omega) (by omega) (nle rfl) (kr_t (kr_v ?_)) (kx_t nt_v fun x => jt_leave hK hQ (by decide) (by omega) (by omega) (fun h w => by cases (bad_2 w.2.1 e4)))
          refine J.pre fun hgE => ?_
          refine j_new (pc := 17) (ci := 6) (fs := [.int 0, .null, .null]) hK hQ rfl in_X7 tyX7_ok q609 q610 q86 (by decide) (by omega) (by omega) dX0_either_17 (fun a17 => ?_)
          refine xq_raw hX1 fun hno => ?_
          refine j_dup (pc := 20) hK dX0_either_20 rfl ?_
          refine j_bipush (pc := 21) (v := 124) hK dX0_either_21 (by decide) ?_
          refine j_aload_n (pc := 23) hK dX0_either_23 rfl ?_
          refine j_aload_n (pc := 24) hK dX0_either_24 rfl ?_
          refine j_callV (pc := 25) hK hQ (hb (pu S1 a17 raw7) (hX1.puS _ (by decide)) hgE) cal_X0_both xq_isC q541 dX0_either_25 rfl rfl (by omega) (by omega) (by omega) (nle rfl) (kr_t (kr_r fun r25 => ?_)) (kx_t nt_r fun x => jt_leave hK hQ (by decide) (by omega) (by omega) (fun h w => PZ.thr (hx1.trans (congrArg Prod.fst (bad_l1 (w.2.1.resolve_left (fun z => by cases z)) e2))) (Or.inr (w.2.1.resolve_left (fun z => by cases z))) w.1 w.2.2))
          refine pz_open fun c' b S2 hc' hgu hS2 hX2 hN2 => ?_
          cases hc'
          refine J.mono (fun h w => xq_out hS2 w) ?_
          refine j_callI (pc := 28) hK hQ (c_I7) cal_X7_init q611 dX0_either_28 rfl rfl (by omega) (by omega) (by omega) (nle rfl) (kr_v ?_) kx_v
          refine j_ast1 (pc := 31) hK dX0_either_31 (by decide) rfl ?_
          refine j_goto (pc := 32) (tgt := 5) hK dX0_either_32 (by decide) ?_
          refine J.mono (fun h w => xq_in w) ?_
          exact J.wide (by omega) (by omega) (ihj (by omega) u _ a17 _ y' (by omega) hl1 hgu (hS1.trans (sb_step hno hS2)) (hX2.dl.puS _ (by decide)) (nt_two (hN1.mono (sb_stepD hno hS2)) (hN2.dl hS2) del_s (by decide)) e2 hxy)
      · rw [if_neg hw] at hy
        cases hy
        have hx1 : x = (q, some c1) := by rw [← hz]; show (q, some (c1 ++ [])) = _; rw [List.append_nil]
        have hx2 : x.1 = q := by rw [hx1]
        refine j_aload_n (pc := 5) hK dX0_either_5 rfl ?_
        refine j_iconst (pc := 6) (v := 3) hK dX0_either_6 (by decide) ?_
        refine j_callV (pc := 7) hK hQ (c_XisKeyC (k := 3) (fun _ e => e.2.2) (by decide) rfl) cal_X0_isKey xq_isC q529 dX0_either_7 rfl rfl (by omega) (by omega) (by omega) (nle rfl) (kr_i fun r7 => ?_) kx_i
        refine J.pre fun e7 => ?_
        subst e7
        refine j_if_eq_b (pc := 10) (tgt := 35) hK dX0_either_10 (by decide) (fun c10 => ?_) (fun c10 => absurd c10 hw)
        refine j_aload_n (pc := 35) hK dX0_either_35 rfl ?_
        exact j_aret (pc := 36) hK hQ (Or.inl ⟨_, rfl⟩) (Or.inr ⟨_, rfl⟩) (by omega) (by omega) dX0_either_36 (fun h w => PZ.ret hx1 hgq hS1 hX1 hN1 w)
  rcases sq_x hx with ⟨q, e1, rfl⟩ | ⟨q, c, y, e1, e2, e3⟩
  · have hb : Ct Γ A yX0_both wX0_both (8 * (5 - o) + 14) (q - p) (3 * (q - p)) [.ref (L 35)] (XQ Γ L f g T (TK t n p o) (Sb S)) (PZ Γ L f g T t n o S (q, none)) := IH m (Nat.le_refl _) p o S (q, none) hp ho hX hg e1
    have hl := (pr_len _ _ _ _ _ hp e1)
    have hl0 : p ≤ q := hl.1
    refine j_aload_n (pc := 0) hK dX0_either_0 rfl ?_
    refine j_callV (pc := 1) hK hQ (hb) cal_X0_both xq_isC q541 dX0_either_1 rfl rfl (by omega) (Nat.le_of_eq (Nat.zero_add _)) (Nat.le_of_eq (Nat.zero_add _)) (nle rfl) (kr_t (kr_r fun r1 => ?_)) (kx_t nt_r fun x => jt_leave hK hQ (by decide) (Nat.le_of_eq (Nat.zero_add _)) (Nat.le_of_eq (Nat.zero_add _)) (fun h w => PZ.thr rfl (Or.inl rfl) w.1 w.2.2))
    exact pz_open fun c a S' z => by cases z
  · have hl := (pr_len _ _ _ _ _ hp e1)
    have hl0 : p ≤ q := hl.1
    have hl1 : q ≤ n := hl.2.1
    have hl2 := (pr_len _ _ _ _ _ hl1 e2)
    have hxy : ext c y = x := by rw [← ext_nil x]; exact e3 []
    have hx1 : x.1 = y.1 := by rw [← hxy]; rfl
    have hl3 : q ≤ y.1 := hl2.1
    have hb : Ct Γ A yX0_both wX0_both (8 * (5 - o) + 14) (q - p) (3 * (q - p)) [.ref (L 35)] (XQ Γ L f g T (TK t n p o) (Sb S)) (PZ Γ L f g T t n o S (q, some c)) := IH m (Nat.le_refl _) p o S (q, some c) hp ho hX hg e1
    refine j_aload_n (pc := 0) hK dX0_either_0 rfl ?_
    refine j_callV (pc := 1) hK hQ (hb) cal_X0_both xq_isC q541 dX0_either_1 rfl rfl (by omega) (by omega) (by omega) (nle rfl) (kr_t (kr_r fun r1 => ?_)) (kx_t nt_r fun x => jt_leave hK hQ (by decide) (by omega) (by omega) (fun h w => PZ.thr (hx1.trans (congrArg Prod.fst (bad_l1 (w.2.1.resolve_left (fun z => by cases z)) e2))) (Or.inr (w.2.1.resolve_left (fun z => by cases z))) w.1 w.2.2))
    refine pz_open fun c' a1 S1 hc' hgq hS1 hX1 hN1 => ?_
    cases hc'
    refine j_ast1 (pc := 4) hK dX0_either_4 (by decide) rfl ?_
    exact J.wide (by omega) (by omega) (loop m (Nat.le_refl _) q S1 a1 c y hl0 hl1 hgq hS1 hX1 hN1 e2 hxy)
theorem s_Xboth (hn : n ≤ 160) (IH : ∀ j, j ≤ m → XCn Γ A L f g T t n j) : XCb Γ A L f g T t n (m + 1) := by
  intro p o S x hp ho hX hg hx
  rw [pr_2] at hx
  refine Ct.of (cc := cX0_both) (nL := 2) (ret := (some (.object "BoatsCalledIn$Node"))) (ls := [some (.ref (L 35)), none]) rfl rfl rfl (nle rfl) ?_
  intro K hK hQ
  have loop : ∀ (j : Nat), j ≤ m → ∀ (q : Nat) (S1 : PH) (a1 : Nat) (c1 : List Int32) (y : Nat × Option (List Int32)), p ≤ q → q ≤ n → gd t n q → Sb S S1 → NoX S1 → NTe S1 (L 35) a1 c1 → pr t n j 3 q o = some y → ext c1 y = x → J Γ A K 5 [some (.ref (L 35)), some (.ref a1)] [] (XQ Γ L f g T (TK t n q o) (Sb S1)) (q - p) (3 * (q - p)) := by
    intro j
    induction j with
    | zero => intro _ q S1 a1 c1 y _ _ _ _ _ _ h; cases h
    | succ j ihj =>
      intro hj q S1 a1 c1 y hpq hq hgq hS1 hX1 hN1 hy hz
      rw [pr_3] at hy
      have hE := en_le (t := t) hq
      by_cases hw : isW t n q wAnd
      · rw [if_pos hw] at hy
        have hgt := en_gt hq (isW_0 hw)
        rcases sq_x hy with ⟨u, e1, rfl⟩ | ⟨u, d, y', e1, e2, e3⟩
        · have e4 := ap_y e1
          have hl := (pr_len _ _ _ _ _ hE.2.1 e4)
          have hx1 : x.1 = u := by rw [← hz]; rfl
          have hx2 : x.2 = none := by rw [← hz]; rfl
          have hl0 : enP t n q ≤ u := hl.1
          have hb : ∀ S2, NoX S2 → gd t n (enP t n q) → Ct Γ A yX0_not wX0_not (8 * (5 - o) + 13) (u - enP t n q) (3 * (u - enP t n q)) [.ref (L 35)] (XQ Γ L f g T (TK t n (enP t n q) o) (Sb S2)) (PZ Γ L f g T t n o S2 (u, none)) := fun S2 h2 h3 => IH j (by omega) (enP t n q) o S2 (u, none) hE.2.1 ho h2 h3 e4
          refine j_aload_n (pc := 5) hK dX0_both_5 rfl ?_
          refine j_iconst (pc := 6) (v := 4) hK dX0_both_6 (by decide) ?_
          refine j_callV (pc := 7) hK hQ (c_XisKeyC (k := 4) (fun _ e => e.2.2) (by decide) rfl) cal_X0_isKey xq_isC q529 dX0_both_7 rfl rfl (by omega) (by omega) (by omega) (nle rfl) (kr_i fun r7 => ?_) kx_i
          refine J.pre fun e7 => ?_
          subst e7
          refine j_if_eq_b (pc := 10) (tgt := 35) hK dX0_both_10 (by decide) (fun c10 => absurd hw c10) (fun c10 => ?_)
          refine j_aload_n (pc := 13) hK dX0_both_13 rfl ?_
          refine J.mono (xq_mono (fun _ e => e.1)) ?_
          refine j_callV (pc := 14) hK hQ (c_Xnext hX1.st' hn hE.2.1) cal_X0_next xq_isC q395 dX0_both_14 rfl rfl (by omega) (by omega) (by omega) (nle rfl) (kr_t (kr_v ?_)) (kx_t nt_v fun x => jt_leave hK hQ (by decide) (by omega) (by omega) (fun h w => PZ.thr (hx1.trans (congrArg Prod.fst (bad_4 w.2.1 e4))) (Or.inl hx2) w.1 w.2.2))
          refine J.pre fun hgE => ?_
          refine j_new (pc := 17) (ci := 6) (fs := [.int 0, .null, .null]) hK hQ rfl in_X7 tyX7_ok q609 q610 q86 (by decide) (by omega) (by omega) dX0_both_17 (fun a17 => ?_)
          refine xq_raw hX1 fun hno => ?_
          refine j_dup (pc := 20) hK dX0_both_20 rfl ?_
          refine j_bipush (pc := 21) (v := 38) hK dX0_both_21 (by decide) ?_
          refine j_aload_n (pc := 23) hK dX0_both_23 rfl ?_
          refine j_aload_n (pc := 24) hK dX0_both_24 rfl ?_
          refine j_callV (pc := 25) hK hQ (hb (pu S1 a17 raw7) (hX1.puS _ (by decide)) hgE) cal_X0_not xq_isC q545 dX0_both_25 rfl rfl (by omega) (by omega) (by omega) (nle rfl) (kr_t (kr_r fun r25 => ?_)) (kx_t nt_r fun x => jt_leave hK hQ (by decide) (by omega) (by omega) (fun h w => PZ.thr hx1 (Or.inl hx2) w.1 w.2.2))
          exact pz_open fun c a S' z => by cases z
        · obtain ⟨c, e4, rfl⟩ := ap_x e1
          have hl := (pr_len _ _ _ _ _ hE.2.1 e4)
          have hl0 : enP t n q ≤ u := hl.1
          have hl1 : u ≤ n := hl.2.1
          have hl2 := (pr_len _ _ _ _ _ hl1 e2)
          have hxy : ext (c1 ++ (c ++ [-12])) y' = x := (e3 c1).trans hz
          have hx1 : x.1 = y'.1 := by rw [← hxy]; rfl
          have hl3 : u ≤ y'.1 := hl2.1
          have hb : ∀ S2, NoX S2 → gd t n (enP t n q) → Ct Γ A yX0_not wX0_not (8 * (5 - o) + 13) (u - enP t n q) (3 * (u - enP t n q)) [.ref (L 35)] (XQ Γ L f g T (TK t n (enP t n q) o) (Sb S2)) (PZ Γ L f g T t n o S2 (u, some c)) := fun S2 h2 h3 => IH j (by omega) (enP t n q) o S2 (u, some c) hE.2.1 ho h2 h3 e4
          refine j_aload_n (pc := 5) hK dX0_both_5 rfl ?_
          refine j_iconst (pc := 6) (v := 4) hK dX0_both_6 (by decide) ?_
          refine j_callV (pc := 7) hK hQ (c_XisKeyC (k := 4) (fun _ e => e.2.2) (by decide) rfl) cal_X0_isKey xq_isC q529 dX0_both_7 rfl rfl (by omega) (by omega) (by omega) (nle rfl) (kr_i fun r7 => ?_) kx_i
          refine J.pre fun e7 => ?_
          subst e7
          refine j_if_eq_b (pc := 10) (tgt := 35) hK dX0_both_10 (by decide) (fun c10 => absurd hw c10) (fun c10 => ?_)
          refine j_aload_n (pc := 13) hK dX0_both_13 rfl ?_
          refine J.mono (xq_mono (fun _ e => e.1)) ?_
          refine j_callV (pc := 14) hK hQ (c_Xnext hX1.st' hn hE.2.1) cal_X0_next xq_isC q395 dX0_both_14 rfl rfl (by omega) (by omega) (by omega) (nle rfl) (kr_t (kr_v ?_)) (kx_t nt_v fun x => jt_leave hK hQ (by decide) (by omega) (by omega) (fun h w => by cases (bad_4 w.2.1 e4)))
          refine J.pre fun hgE => ?_
          refine j_new (pc := 17) (ci := 6) (fs := [.int 0, .null, .null]) hK hQ rfl in_X7 tyX7_ok q609 q610 q86 (by decide) (by omega) (by omega) dX0_both_17 (fun a17 => ?_)
          refine xq_raw hX1 fun hno => ?_
          refine j_dup (pc := 20) hK dX0_both_20 rfl ?_
          refine j_bipush (pc := 21) (v := 38) hK dX0_both_21 (by decide) ?_
          refine j_aload_n (pc := 23) hK dX0_both_23 rfl ?_
          refine j_aload_n (pc := 24) hK dX0_both_24 rfl ?_
          refine j_callV (pc := 25) hK hQ (hb (pu S1 a17 raw7) (hX1.puS _ (by decide)) hgE) cal_X0_not xq_isC q545 dX0_both_25 rfl rfl (by omega) (by omega) (by omega) (nle rfl) (kr_t (kr_r fun r25 => ?_)) (kx_t nt_r fun x => jt_leave hK hQ (by decide) (by omega) (by omega) (fun h w => PZ.thr (hx1.trans (congrArg Prod.fst (bad_l3 (w.2.1.resolve_left (fun z => by cases z)) e2))) (Or.inr (w.2.1.resolve_left (fun z => by cases z))) w.1 w.2.2))
          refine pz_open fun c' b S2 hc' hgu hS2 hX2 hN2 => ?_
          cases hc'
          refine J.mono (fun h w => xq_out hS2 w) ?_
          refine j_callI (pc := 28) hK hQ (c_I7) cal_X7_init q611 dX0_both_28 rfl rfl (by omega) (by omega) (by omega) (nle rfl) (kr_v ?_) kx_v
          refine j_ast1 (pc := 31) hK dX0_both_31 (by decide) rfl ?_
          refine j_goto (pc := 32) (tgt := 5) hK dX0_both_32 (by decide) ?_
          refine J.mono (fun h w => xq_in w) ?_
          exact J.wide (by omega) (by omega) (ihj (by omega) u _ a17 _ y' (by omega) hl1 hgu (hS1.trans (sb_step hno hS2)) (hX2.dl.puS _ (by decide)) (nt_two (hN1.mono (sb_stepD hno hS2)) (hN2.dl hS2) del_s (by decide)) e2 hxy)
      · rw [if_neg hw] at hy
        cases hy
        have hx1 : x = (q, some c1) := by rw [← hz]; show (q, some (c1 ++ [])) = _; rw [List.append_nil]
        have hx2 : x.1 = q := by rw [hx1]
        refine j_aload_n (pc := 5) hK dX0_both_5 rfl ?_
        refine j_iconst (pc := 6) (v := 4) hK dX0_both_6 (by decide) ?_
        refine j_callV (pc := 7) hK hQ (c_XisKeyC (k := 4) (fun _ e => e.2.2) (by decide) rfl) cal_X0_isKey xq_isC q529 dX0_both_7 rfl rfl (by omega) (by omega) (by omega) (nle rfl) (kr_i fun r7 => ?_) kx_i
        refine J.pre fun e7 => ?_
        subst e7
        refine j_if_eq_b (pc := 10) (tgt := 35) hK dX0_both_10 (by decide) (fun c10 => ?_) (fun c10 => absurd c10 hw)
        refine j_aload_n (pc := 35) hK dX0_both_35 rfl ?_
        exact j_aret (pc := 36) hK hQ (Or.inl ⟨_, rfl⟩) (Or.inr ⟨_, rfl⟩) (by omega) (by omega) dX0_both_36 (fun h w => PZ.ret hx1 hgq hS1 hX1 hN1 w)
  rcases sq_x hx with ⟨q, e1, rfl⟩ | ⟨q, c, y, e1, e2, e3⟩
  · have hb : Ct Γ A yX0_not wX0_not (8 * (5 - o) + 13) (q - p) (3 * (q - p)) [.ref (L 35)] (XQ Γ L f g T (TK t n p o) (Sb S)) (PZ Γ L f g T t n o S (q, none)) := IH m (Nat.le_refl _) p o S (q, none) hp ho hX hg e1
    have hl := (pr_len _ _ _ _ _ hp e1)
    have hl0 : p ≤ q := hl.1
    refine j_aload_n (pc := 0) hK dX0_both_0 rfl ?_
    refine j_callV (pc := 1) hK hQ (hb) cal_X0_not xq_isC q545 dX0_both_1 rfl rfl (by omega) (Nat.le_of_eq (Nat.zero_add _)) (Nat.le_of_eq (Nat.zero_add _)) (nle rfl) (kr_t (kr_r fun r1 => ?_)) (kx_t nt_r fun x => jt_leave hK hQ (by decide) (Nat.le_of_eq (Nat.zero_add _)) (Nat.le_of_eq (Nat.zero_add _)) (fun h w => PZ.thr rfl (Or.inl rfl) w.1 w.2.2))
    exact pz_open fun c a S' z => by cases z
  · have hl := (pr_len _ _ _ _ _ hp e1)
    have hl0 : p ≤ q := hl.1
    have hl1 : q ≤ n := hl.2.1
    have hl2 := (pr_len _ _ _ _ _ hl1 e2)
    have hxy : ext c y = x := by rw [← ext_nil x]; exact e3 []
    have hx1 : x.1 = y.1 := by rw [← hxy]; rfl
    have hl3 : q ≤ y.1 := hl2.1
    have hb : Ct Γ A yX0_not wX0_not (8 * (5 - o) + 13) (q - p) (3 * (q - p)) [.ref (L 35)] (XQ Γ L f g T (TK t n p o) (Sb S)) (PZ Γ L f g T t n o S (q, some c)) := IH m (Nat.le_refl _) p o S (q, some c) hp ho hX hg e1
    refine j_aload_n (pc := 0) hK dX0_both_0 rfl ?_
    refine j_callV (pc := 1) hK hQ (hb) cal_X0_not xq_isC q545 dX0_both_1 rfl rfl (by omega) (by omega) (by omega) (nle rfl) (kr_t (kr_r fun r1 => ?_)) (kx_t nt_r fun x => jt_leave hK hQ (by decide) (by omega) (by omega) (fun h w => PZ.thr (hx1.trans (congrArg Prod.fst (bad_l3 (w.2.1.resolve_left (fun z => by cases z)) e2))) (Or.inr (w.2.1.resolve_left (fun z => by cases z))) w.1 w.2.2))
    refine pz_open fun c' a1 S1 hc' hgq hS1 hX1 hN1 => ?_
    cases hc'
    refine j_ast1 (pc := 4) hK dX0_both_4 (by decide) rfl ?_
    exact J.wide (by omega) (by omega) (loop m (Nat.le_refl _) q S1 a1 c y hl0 hl1 hgq hS1 hX1 hN1 e2 hxy)
theorem s_Xtimes (hn : n ≤ 160) (IH : ∀ j, j ≤ m → XCo Γ A L f g T t n j) : XCt Γ A L f g T t n (m + 1) := by
  intro p o S x hp ho hX hg hx
  rw [pr_7] at hx
  refine Ct.of (cc := cX0_times) (nL := 2) (ret := (some (.object "BoatsCalledIn$Node"))) (ls := [some (.ref (L 35)), none]) rfl rfl rfl (nle rfl) ?_
  intro K hK hQ
  have loop : ∀ (j : Nat), j ≤ m → ∀ (q : Nat) (S1 : PH) (a1 : Nat) (c1 : List Int32) (y : Nat × Option (List Int32)), p ≤ q → q ≤ n → gd t n q → Sb S S1 → NoX S1 → NTe S1 (L 35) a1 c1 → pr t n j 8 q o = some y → ext c1 y = x → J Γ A K 5 [some (.ref (L 35)), some (.ref a1)] [] (XQ Γ L f g T (TK t n q o) (Sb S1)) (q - p) (3 * (q - p)) := by
    intro j
    induction j with
    | zero => intro _ q S1 a1 c1 y _ _ _ _ _ _ h; cases h
    | succ j ihj =>
      intro hj q S1 a1 c1 y hpq hq hgq hS1 hX1 hN1 hy hz
      rw [pr_8] at hy
      have hE := en_le (t := t) hq
      by_cases hw : isS t n q 42
      · rw [if_pos hw] at hy
        have hgt := en_gt hq (isS_0 hw)
        rcases sq_x hy with ⟨u, e1, rfl⟩ | ⟨u, d, y', e1, e2, e3⟩
        · have e4 := ap_y e1
          have hl := (pr_len _ _ _ _ _ hE.2.1 e4)
          have hx1 : x.1 = u := by rw [← hz]; rfl
          have hx2 : x.2 = none := by rw [← hz]; rfl
          have hl0 : enP t n q ≤ u := hl.1
          have hb : ∀ S2, NoX S2 → gd t n (enP t n q) → Ct Γ A yX0_one wX0_one (8 * (5 - o) + 10) (u - enP t n q) (3 * (u - enP t n q)) [.ref (L 35)] (XQ Γ L f g T (TK t n (enP t n q) o) (Sb S2)) (PZ Γ L f g T t n o S2 (u, none)) := fun S2 h2 h3 => IH j (by omega) (enP t n q) o S2 (u, none) hE.2.1 ho h2 h3 e4
          refine j_aload_n (pc := 5) hK dX0_times_5 rfl ?_
          refine j_bipush (pc := 6) (v := 42) hK dX0_times_6 (by decide) ?_
          refine j_callV (pc := 8) hK hQ (c_XisSign (fun _ e => e.2.2) _) cal_X0_isSign xq_isC q605 dX0_times_8 rfl rfl (by omega) (by omega) (by omega) (nle rfl) (kr_i fun r8 => ?_) kx_i
          refine J.pre fun e8 => ?_
          subst e8
          refine j_if_eq_b (pc := 11) (tgt := 36) hK dX0_times_11 (by decide) (fun c11 => absurd hw c11) (fun c11 => ?_)
          refine j_aload_n (pc := 14) hK dX0_times_14 rfl ?_
          refine J.mono (xq_mono (fun _ e => e.1)) ?_
          refine j_callV (pc := 15) hK hQ (c_Xnext hX1.st' hn hE.2.1) cal_X0_next xq_isC q395 dX0_times_15 rfl rfl (by omega) (by omega) (by omega) (nle rfl) (kr_t (kr_v ?_)) (kx_t nt_v fun x => jt_leave hK hQ (by decide) (by omega) (by omega) (fun h w => PZ.thr (hx1.trans (congrArg Prod.fst (bad_9 0 w.2.1 e4))) (Or.inl hx2) w.1 w.2.2))
          refine J.pre fun hgE => ?_
          refine j_new (pc := 18) (ci := 6) (fs := [.int 0, .null, .null]) hK hQ rfl in_X7 tyX7_ok q609 q610 q86 (by decide) (by omega) (by omega) dX0_times_18 (fun a18 => ?_)
          refine xq_raw hX1 fun hno => ?_
          refine j_dup (pc := 21) hK dX0_times_21 rfl ?_
          refine j_bipush (pc := 22) (v := 42) hK dX0_times_22 (by decide) ?_
          refine j_aload_n (pc := 24) hK dX0_times_24 rfl ?_
          refine j_aload_n (pc := 25) hK dX0_times_25 rfl ?_
          refine j_callV (pc := 26) hK hQ (hb (pu S1 a18 raw7) (hX1.puS _ (by decide)) hgE) cal_X0_one xq_isC q578 dX0_times_26 rfl rfl (by omega) (by omega) (by omega) (nle rfl) (kr_t (kr_r fun r26 => ?_)) (kx_t nt_r fun x => jt_leave hK hQ (by decide) (by omega) (by omega) (fun h w => PZ.thr hx1 (Or.inl hx2) w.1 w.2.2))
          exact pz_open fun c a S' z => by cases z
        · obtain ⟨c, e4, rfl⟩ := ap_x e1
          have hl := (pr_len _ _ _ _ _ hE.2.1 e4)
          have hl0 : enP t n q ≤ u := hl.1
          have hl1 : u ≤ n := hl.2.1
          have hl2 := (pr_len _ _ _ _ _ hl1 e2)
          have hxy : ext (c1 ++ (c ++ [-18])) y' = x := (e3 c1).trans hz
          have hx1 : x.1 = y'.1 := by rw [← hxy]; rfl
          have hl3 : u ≤ y'.1 := hl2.1
          have hb : ∀ S2, NoX S2 → gd t n (enP t n q) → Ct Γ A yX0_one wX0_one (8 * (5 - o) + 10) (u - enP t n q) (3 * (u - enP t n q)) [.ref (L 35)] (XQ Γ L f g T (TK t n (enP t n q) o) (Sb S2)) (PZ Γ L f g T t n o S2 (u, some c)) := fun S2 h2 h3 => IH j (by omega) (enP t n q) o S2 (u, some c) hE.2.1 ho h2 h3 e4
          refine j_aload_n (pc := 5) hK dX0_times_5 rfl ?_
          refine j_bipush (pc := 6) (v := 42) hK dX0_times_6 (by decide) ?_
          refine j_callV (pc := 8) hK hQ (c_XisSign (fun _ e => e.2.2) _) cal_X0_isSign xq_isC q605 dX0_times_8 rfl rfl (by omega) (by omega) (by omega) (nle rfl) (kr_i fun r8 => ?_) kx_i
          refine J.pre fun e8 => ?_
          subst e8
          refine j_if_eq_b (pc := 11) (tgt := 36) hK dX0_times_11 (by decide) (fun c11 => absurd hw c11) (fun c11 => ?_)
          refine j_aload_n (pc := 14) hK dX0_times_14 rfl ?_
          refine J.mono (xq_mono (fun _ e => e.1)) ?_
          refine j_callV (pc := 15) hK hQ (c_Xnext hX1.st' hn hE.2.1) cal_X0_next xq_isC q395 dX0_times_15 rfl rfl (by omega) (by omega) (by omega) (nle rfl) (kr_t (kr_v ?_)) (kx_t nt_v fun x => jt_leave hK hQ (by decide) (by omega) (by omega) (fun h w => by cases (bad_9 0 w.2.1 e4)))
          refine J.pre fun hgE => ?_
          refine j_new (pc := 18) (ci := 6) (fs := [.int 0, .null, .null]) hK hQ rfl in_X7 tyX7_ok q609 q610 q86 (by decide) (by omega) (by omega) dX0_times_18 (fun a18 => ?_)
          refine xq_raw hX1 fun hno => ?_
          refine j_dup (pc := 21) hK dX0_times_21 rfl ?_
          refine j_bipush (pc := 22) (v := 42) hK dX0_times_22 (by decide) ?_
          refine j_aload_n (pc := 24) hK dX0_times_24 rfl ?_
          refine j_aload_n (pc := 25) hK dX0_times_25 rfl ?_
          refine j_callV (pc := 26) hK hQ (hb (pu S1 a18 raw7) (hX1.puS _ (by decide)) hgE) cal_X0_one xq_isC q578 dX0_times_26 rfl rfl (by omega) (by omega) (by omega) (nle rfl) (kr_t (kr_r fun r26 => ?_)) (kx_t nt_r fun x => jt_leave hK hQ (by decide) (by omega) (by omega) (fun h w => PZ.thr (hx1.trans (congrArg Prod.fst (bad_l8 (w.2.1.resolve_left (fun z => by cases z)) e2))) (Or.inr (w.2.1.resolve_left (fun z => by cases z))) w.1 w.2.2))
          refine pz_open fun c' b S2 hc' hgu hS2 hX2 hN2 => ?_
          cases hc'
          refine J.mono (fun h w => xq_out hS2 w) ?_
          refine j_callI (pc := 29) hK hQ (c_I7) cal_X7_init q611 dX0_times_29 rfl rfl (by omega) (by omega) (by omega) (nle rfl) (kr_v ?_) kx_v
          refine j_ast1 (pc := 32) hK dX0_times_32 (by decide) rfl ?_
          refine j_goto (pc := 33) (tgt := 5) hK dX0_times_33 (by decide) ?_
          refine J.mono (fun h w => xq_in w) ?_
          exact J.wide (by omega) (by omega) (ihj (by omega) u _ a18 _ y' (by omega) hl1 hgu (hS1.trans (sb_step hno hS2)) (hX2.dl.puS _ (by decide)) (nt_two (hN1.mono (sb_stepD hno hS2)) (hN2.dl hS2) del_s (by decide)) e2 hxy)
      · rw [if_neg hw] at hy
        cases hy
        have hx1 : x = (q, some c1) := by rw [← hz]; show (q, some (c1 ++ [])) = _; rw [List.append_nil]
        have hx2 : x.1 = q := by rw [hx1]
        refine j_aload_n (pc := 5) hK dX0_times_5 rfl ?_
        refine j_bipush (pc := 6) (v := 42) hK dX0_times_6 (by decide) ?_
        refine j_callV (pc := 8) hK hQ (c_XisSign (fun _ e => e.2.2) _) cal_X0_isSign xq_isC q605 dX0_times_8 rfl rfl (by omega) (by omega) (by omega) (nle rfl) (kr_i fun r8 => ?_) kx_i
        refine J.pre fun e8 => ?_
        subst e8
        refine j_if_eq_b (pc := 11) (tgt := 36) hK dX0_times_11 (by decide) (fun c11 => ?_) (fun c11 => absurd c11 hw)
        refine j_aload_n (pc := 36) hK dX0_times_36 rfl ?_
        exact j_aret (pc := 37) hK hQ (Or.inl ⟨_, rfl⟩) (Or.inr ⟨_, rfl⟩) (by omega) (by omega) dX0_times_37 (fun h w => PZ.ret hx1 hgq hS1 hX1 hN1 w)
  rcases sq_x hx with ⟨q, e1, rfl⟩ | ⟨q, c, y, e1, e2, e3⟩
  · have hb : Ct Γ A yX0_one wX0_one (8 * (5 - o) + 10) (q - p) (3 * (q - p)) [.ref (L 35)] (XQ Γ L f g T (TK t n p o) (Sb S)) (PZ Γ L f g T t n o S (q, none)) := IH m (Nat.le_refl _) p o S (q, none) hp ho hX hg e1
    have hl := (pr_len _ _ _ _ _ hp e1)
    have hl0 : p ≤ q := hl.1
    refine j_aload_n (pc := 0) hK dX0_times_0 rfl ?_
    refine j_callV (pc := 1) hK hQ (hb) cal_X0_one xq_isC q578 dX0_times_1 rfl rfl (by omega) (Nat.le_of_eq (Nat.zero_add _)) (Nat.le_of_eq (Nat.zero_add _)) (nle rfl) (kr_t (kr_r fun r1 => ?_)) (kx_t nt_r fun x => jt_leave hK hQ (by decide) (Nat.le_of_eq (Nat.zero_add _)) (Nat.le_of_eq (Nat.zero_add _)) (fun h w => PZ.thr rfl (Or.inl rfl) w.1 w.2.2))
    exact pz_open fun c a S' z => by cases z
  · have hl := (pr_len _ _ _ _ _ hp e1)
    have hl0 : p ≤ q := hl.1
    have hl1 : q ≤ n := hl.2.1
    have hl2 := (pr_len _ _ _ _ _ hl1 e2)
    have hxy : ext c y = x := by rw [← ext_nil x]; exact e3 []
    have hx1 : x.1 = y.1 := by rw [← hxy]; rfl
    have hl3 : q ≤ y.1 := hl2.1
    have hb : Ct Γ A yX0_one wX0_one (8 * (5 - o) + 10) (q - p) (3 * (q - p)) [.ref (L 35)] (XQ Γ L f g T (TK t n p o) (Sb S)) (PZ Γ L f g T t n o S (q, some c)) := IH m (Nat.le_refl _) p o S (q, some c) hp ho hX hg e1
    refine j_aload_n (pc := 0) hK dX0_times_0 rfl ?_
    refine j_callV (pc := 1) hK hQ (hb) cal_X0_one xq_isC q578 dX0_times_1 rfl rfl (by omega) (by omega) (by omega) (nle rfl) (kr_t (kr_r fun r1 => ?_)) (kx_t nt_r fun x => jt_leave hK hQ (by decide) (by omega) (by omega) (fun h w => PZ.thr (hx1.trans (congrArg Prod.fst (bad_l8 (w.2.1.resolve_left (fun z => by cases z)) e2))) (Or.inr (w.2.1.resolve_left (fun z => by cases z))) w.1 w.2.2))
    refine pz_open fun c' a1 S1 hc' hgq hS1 hX1 hN1 => ?_
    cases hc'
    refine j_ast1 (pc := 4) hK dX0_times_4 (by decide) rfl ?_
    exact J.wide (by omega) (by omega) (loop m (Nat.le_refl _) q S1 a1 c y hl0 hl1 hgq hS1 hX1 hN1 e2 hxy)
end X76
