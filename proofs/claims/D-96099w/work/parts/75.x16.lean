/-! the class reads: cells of trees, their makers, need, openOne -/
set_option maxRecDepth 100000
def Sb (S h : PH) : Prop := ∀ a e, S a = some e → h a = some e
def NoX (S : PH) : Prop := ∀ a fs, S a ≠ some (.inr (0, fs))
theorem Sb.refl (S : PH) : Sb S S := fun _ _ h => h
theorem Sb.trans {S S1 h : PH} (a : Sb S S1) (b : Sb S1 h) : Sb S h := fun _ _ q => b _ _ (a _ _ q)
theorem Sb.st {S : PH} (hS : NoX S) : StR (Sb S) := fun _ _ k w a e q => k a e (w a e q) (fun fs z => hS a fs (by rw [q, z]))
theorem Sb.kn {S h : PH} (w : Sb S h) : KN S h := fun a _ _ q _ _ => w a _ q
theorem Sb.no {S h : PH} {a : Nat} (w : Sb S h) (ha : h a = none) : S a = none := by
  cases e : S a with
  | none => rfl
  | some x => rw [w a x e] at ha; cases ha
theorem Sb.puS {S h : PH} (a : Nat) (e : va_E) (w : Sb S h) : Sb (pu S a e) (pu h a e) := fun b x q => by
  unfold pu at q ⊢
  by_cases z : b = a
  · rw [if_pos z] at q ⊢; exact q
  · rw [if_neg z] at q ⊢; exact w b x q
theorem Sb.new {S h : PH} {a : Nat} (e : va_E) (w : Sb S h) (ha : S a = none) : Sb S (pu h a e) := fun b x q => by
  rw [pu_ne _ _ (fun z => by rw [z, ha] at q; cases q)]
  exact w b x q
theorem NoX.puS {S : PH} (a : Nat) {ci : Nat} {fs : List Value} (h : NoX S) (hc : ci ≠ 0) : NoX (pu S a (.inr (ci, fs))) := fun b fs' => by
  unfold pu
  by_cases z : b = a
  · rw [if_pos z]; intro q; cases q; exact hc rfl
  · rw [if_neg z]; exact h b fs'
theorem NTe.mono {S h : PH} {o a : Nat} {c : List Int32} (w : Sb S h) (k : NTe S o a c) : NTe h o a c := ⟨_, NT.kept w.kn _ _ _ _ k.choose_spec⟩
def del (h : PH) (a : Nat) : PH := fun b => if b = a then none else h b
theorem del_ne {h : PH} {a b : Nat} (hb : b ≠ a) : del h a b = h b := if_neg hb
theorem del_s {h : PH} {a : Nat} : del h a a = none := if_pos rfl
theorem del_pu {h : PH} {a : Nat} {e : va_E} (ha : h a = some e) : h = pu (del h a) a e := by
  funext b
  unfold pu del
  by_cases z : b = a
  · rw [if_pos z, z, ha]
  · rw [if_neg z, if_neg z]
def raw7 : va_E := .inr (6, [.int 0, .null, .null])
theorem NT.dl {h : PH} {a : Nat} (ha : h a = some raw7) : ∀ (n o b : Nat) (c : List Int32), NT n h o b c → NT n (del h a) o b c := by
  intro n
  induction n with
  | zero => intro o b c w; exact w
  | succ n ih =>
    intro o b c w
    have hd : ∀ e, h b = some e → e ≠ raw7 → del h a b = some e := fun e q hne => by
      rw [del_ne (fun z => by rw [z, ha] at q; cases q; exact hne rfl)]; exact q
    rcases w with ⟨v, h0, h1, h2⟩ | ⟨v, h0, h3, h1, h2⟩ | ⟨b', c1, m, h1, h2, h3, h4⟩ | ⟨b1, b2, c1, c2, sg, op, h1, h2, h3, h4, h5⟩
    · exact Or.inl ⟨v, h0, h1, hd _ h2 (fun z => by cases z)⟩
    · exact Or.inr (Or.inl ⟨v, h0, h3, h1, hd _ h2 (fun z => by cases z)⟩)
    · exact Or.inr (Or.inr (Or.inl ⟨b', c1, m, h1, h2, hd _ h3 (fun z => by cases z), ih _ _ _ h4⟩))
    · exact Or.inr (Or.inr (Or.inr ⟨b1, b2, c1, c2, sg, op, h1, h2, hd _ h3 (fun z => by cases z), ih _ _ _ h4, ih _ _ _ h5⟩))
theorem xcs_n6 {Γ : Gam} {L : Nat → Nat} {x : XD} {tm k : Nat} {fs : List Value} : xcs Γ L x tm k ≠ some (.inr (6, fs)) := by
  unfold xcs
  intro h
  by_cases h1 : xia k = true
  · rw [if_pos h1] at h; cases h
  rw [if_neg h1] at h
  by_cases h2 : k = 35
  · rw [if_pos h2] at h; cases h
  rw [if_neg h2] at h
  by_cases h3 : k = 0
  · rw [if_pos h3] at h; cases h
  rw [if_neg h3] at h
  by_cases h4 : k = 10
  · rw [if_pos h4] at h; cases h
  rw [if_neg h4] at h
  by_cases h5 : k = 12
  · rw [if_pos h5] at h; cases h
  rw [if_neg h5] at h
  by_cases h6 : k = 14
  · rw [if_pos h6] at h; cases h
  rw [if_neg h6] at h
  by_cases h7 : k = 15
  · rw [if_pos h7] at h; cases h
  rw [if_neg h7] at h
  by_cases h8 : k = 31
  · rw [if_pos h8] at h; cases h
  rw [if_neg h8] at h
  by_cases h9 : k = 34
  · rw [if_pos h9] at h; cases h
  rw [if_neg h9] at h
  by_cases h10 : 36 ≤ k ∧ k < 36 + x.nb ∧ k < 43
  · rw [if_pos h10] at h
    have := congrArg Prod.fst (Sum.inr.inj (Option.some.inj h))
    simp only at this
    omega
  rw [if_neg h10] at h
  by_cases h11 : 49 ≤ k ∧ k < 53
  · rw [if_pos h11] at h; cases h
  rw [if_neg h11] at h
  by_cases h12 : 53 ≤ k ∧ k < 57 ∧ ¬ x.q 38 (nI (k - 53)) = -1
  · rw [if_pos h12] at h; cases h
  rw [if_neg h12] at h
  by_cases h13 : 57 ≤ k ∧ k < 57 + tm ∧ k < 63
  · rw [if_pos h13] at h; cases h
  rw [if_neg h13] at h
  cases h
theorem Sb.dl {S h : PH} {a : Nat} (w : Sb S h) : Sb (del S a) (del h a) := fun b x q => by
  by_cases z : b = a
  · rw [z, del_s] at q; cases q
  · rw [del_ne z] at q ⊢; exact w b x q
theorem NoX.dl {S : PH} {a : Nat} (h : NoX S) : NoX (del S a) := fun b fs => by
  by_cases z : b = a
  · rw [z, del_s]; exact fun q => by cases q
  · rw [del_ne z]; exact h b fs
section P75
variable {Γ : Gam} {A : Nat → Prop} {L : Nat → Nat} {f : Nat → Int32} {g : Nat → Int32 → Int32} {T : TX} {P : PH → Prop} {x : XD} {tm : Nat} {t : Nat → Int32} {n p o q : Nat} {R : PH → Prop} {φ : XD → Prop}
theorem XI.dl {h : PH} {a : Nat} (w : XI Γ L f g T φ h) (ha : h a = some raw7) : XI Γ L f g T φ (del h a) := by
  obtain ⟨x, w, r, tr, s, e⟩ := w
  refine ⟨x, ⟨fun k y q => ?_, w.2⟩, r, ⟨tr.1, fun t ht w' hw => NT.dl ha _ _ _ _ (tr.2 t ht w' hw)⟩, s, e⟩
  have h1 := w.1 k y q
  rw [del_ne (fun z => by rw [z, ha] at h1; cases h1; exact xcs_n6 q)]
  exact h1
/-- a new object e at a beside P -/
def NBg (P : PH → Prop) (a : Nat) (e : va_E) (h : PH) : Prop := ∃ h0, P h0 ∧ h0 a = none ∧ h = pu h0 a e
theorem nbg_put {K : JC} {cc : ByteArray} {nL : Nat} {own : String} {hh : List (Nat × Nat × Nat × Nat)} {pc : Nat} {ls : List (Option Value)} {st : List Value} {cs ss : Nat} {a ci k idx N : Nat} {C : String} {TT : u_T} {v : Value} {ty0 : Nat → FieldType} {fs fs' : List Value} (hK : Jok Γ A K cc nL own hh) (hI : (kt K).name = "<init>") (hc : vwCl[ci]? = some (C, TT, N)) (hin : ∀ w ∈ u_ws C TT N, w ∈ lw_all) (hty : ∀ k, k < N → parseFieldDescriptor (TT k).2.2.1 = some (ty0 k)) (hnm : ∀ a, a < N → ∀ b, b < N → a ≠ b → (TT a).2.1 ≠ (TT b).2.1) (hk : k < N) (hlink : Cond.fieldLink own idx C (TT k).2.1 (TT k).2.2.1 ∈ lw_all) (h1 : (TT k).1 = C) (hfin : (TT k).2.2.2 = true) (hdecl : (TT k).1 = own) (hn : narrow (ty0 k) v = v) (hfit : fits (ty0 k) v = true) (hl : k < fs.length) (hs : fs.set k v = fs') (hd : decode cc pc = .ok (.putfield idx, 3)) (kk : J Γ A K (pc + 3) ls st (NBg P a (.inr (ci, fs'))) cs ss) : J Γ A K pc ls (v :: .ref a :: st) (NBg P a (.inr (ci, fs))) cs ss :=
  j_putF hK hc hin hty hnm hk hlink (fun x h => by rw [h1] at h; exact h) hfin hI hdecl hn hfit hd (fun h ⟨h0, q1, q2, e⟩ => ⟨fs, by rw [e, pu_self], hl, h0, q1, q2, by rw [e, pu_pu, hs]⟩) kk
theorem c_I3 {a : Nat} : Ct Γ A yX3_init wX3_init 2 0 0 [.ref a] P (RV P) := by
  refine Ct.of (cc := cX3_init) (nL := 1) (ret := none) (ls := [some (.ref a)]) rfl rfl rfl (nle rfl) ?_
  intro K hK hQ
  refine j_aload_n (pc := 0) hK dX3_init_0 rfl ?_
  refine j_obj (pc := 1) hK hQ q561 dX3_init_1 (by decide) (by decide) ?_
  exact j_vret (pc := 4) hK hQ (nle rfl) (nle rfl) dX3_init_4 (fun h w => ⟨rfl, w⟩)
theorem c_I4 {a : Nat} {b : Nat} {m : Int32} (hm1 : narrow .boolean (.int m) = .int m) (hm2 : fits .boolean (.int m) = true) : Ct Γ A yX4_init wX4_init 3 0 0 [.ref a, .ref b, .int m] (NBg P a (.inr (3, [.null, .int 0]))) (RV (NBg P a (.inr (3, [.ref b, .int m])))) := by
  refine Ct.ofI (cc := cX4_init) (nL := 3) (ret := none) (ls := [some (.ref a), some (.ref b), some (.int m)]) rfl rfl rfl (nle rfl) ?_
  intro K hK hQ hI
  refine j_aload_n (pc := 0) hK dX4_init_0 rfl ?_
  refine j_callIN (pc := 1) hK hQ (c_I3) cal_X3_init q558 dX4_init_1 rfl rfl (nle rfl) (nle rfl) (nle rfl) (nle rfl) (kr_v ?_) kx_v
  refine j_aload_n (pc := 4) hK dX4_init_4 rfl ?_
  refine j_aload_n (pc := 5) hK dX4_init_5 rfl ?_
  refine nbg_put (pc := 6) (k := 0) (fs' := [.ref b, .int 0]) hK hI rfl in_X4 tyX4_ok nmX4 (by decide) q562 rfl rfl rfl rfl rfl (show 0 < 2 by decide) rfl dX4_init_6 ?_
  refine j_aload_n (pc := 9) hK dX4_init_9 rfl ?_
  refine j_iload_n (pc := 10) hK dX4_init_10 rfl ?_
  refine nbg_put (pc := 11) (k := 1) (fs' := [.ref b, .int m]) hK hI rfl in_X4 tyX4_ok nmX4 (by decide) q563 rfl rfl rfl hm1 hm2 (show 1 < 2 by decide) rfl dX4_init_11 ?_
  exact j_vret (pc := 14) hK hQ (nle rfl) (nle rfl) dX4_init_14 (fun h w => ⟨rfl, w⟩)
theorem c_I5 {a : Nat} {v : Int32} : Ct Γ A yX5_init wX5_init 3 0 0 [.ref a, .int v] (NBg P a (.inr (4, [.int 0]))) (RV (NBg P a (.inr (4, [.int v])))) := by
  refine Ct.ofI (cc := cX5_init) (nL := 2) (ret := none) (ls := [some (.ref a), some (.int v)]) rfl rfl rfl (nle rfl) ?_
  intro K hK hQ hI
  refine j_aload_n (pc := 0) hK dX5_init_0 rfl ?_
  refine j_callIN (pc := 1) hK hQ (c_I3) cal_X3_init q587 dX5_init_1 rfl rfl (nle rfl) (nle rfl) (nle rfl) (nle rfl) (kr_v ?_) kx_v
  refine j_aload_n (pc := 4) hK dX5_init_4 rfl ?_
  refine j_iload_n (pc := 5) hK dX5_init_5 rfl ?_
  refine nbg_put (pc := 6) (k := 0) (fs' := [.int v]) hK hI rfl in_X5 tyX5_ok nmX5 (by decide) q588 rfl rfl rfl rfl rfl (show 0 < 1 by decide) rfl dX5_init_6 ?_
  exact j_vret (pc := 9) hK hQ (nle rfl) (nle rfl) dX5_init_9 (fun h w => ⟨rfl, w⟩)
theorem c_I6 {a : Nat} {b : Nat} {v : Int32} : Ct Γ A yX6_init wX6_init 3 0 0 [.ref a, .ref b, .int v] (NBg P a (.inr (5, [.int 0, .null]))) (RV (NBg P a (.inr (5, [.int v, .ref b])))) := by
  refine Ct.ofI (cc := cX6_init) (nL := 3) (ret := none) (ls := [some (.ref a), some (.ref b), some (.int v)]) rfl rfl rfl (nle rfl) ?_
  intro K hK hQ hI
  refine j_aload_n (pc := 0) hK dX6_init_0 rfl ?_
  refine j_aload_n (pc := 1) hK dX6_init_1 rfl ?_
  refine nbg_put (pc := 2) (k := 1) (fs' := [.int 0, .ref b]) hK hI rfl in_X6 tyX6_ok nmX6 (by decide) q599 rfl rfl rfl rfl rfl (show 1 < 2 by decide) rfl dX6_init_2 ?_
  refine j_aload_n (pc := 5) hK dX6_init_5 rfl ?_
  refine j_callIN (pc := 6) hK hQ (c_I3) cal_X3_init q597 dX6_init_6 rfl rfl (nle rfl) (nle rfl) (nle rfl) (nle rfl) (kr_v ?_) kx_v
  refine j_aload_n (pc := 9) hK dX6_init_9 rfl ?_
  refine j_iload_n (pc := 10) hK dX6_init_10 rfl ?_
  refine nbg_put (pc := 11) (k := 0) (fs' := [.int v, .ref b]) hK hI rfl in_X6 tyX6_ok nmX6 (by decide) q598 rfl rfl rfl rfl rfl (show 0 < 2 by decide) rfl dX6_init_11 ?_
  exact j_vret (pc := 14) hK hQ (nle rfl) (nle rfl) dX6_init_14 (fun h w => ⟨rfl, w⟩)
theorem c_I7 {a : Nat} {b c : Nat} {v : Int32} : Ct Γ A yX7_init wX7_init 3 0 0 [.ref a, .int v, .ref b, .ref c] (NBg P a (.inr (6, [.int 0, .null, .null]))) (RV (NBg P a (.inr (6, [.int v, .ref b, .ref c])))) := by
  refine Ct.ofI (cc := cX7_init) (nL := 4) (ret := none) (ls := [some (.ref a), some (.int v), some (.ref b), some (.ref c)]) rfl rfl rfl (nle rfl) ?_
  intro K hK hQ hI
  refine j_aload_n (pc := 0) hK dX7_init_0 rfl ?_
  refine j_callIN (pc := 1) hK hQ (c_I3) cal_X3_init q614 dX7_init_1 rfl rfl (nle rfl) (nle rfl) (nle rfl) (nle rfl) (kr_v ?_) kx_v
  refine j_aload_n (pc := 4) hK dX7_init_4 rfl ?_
  refine j_iload_n (pc := 5) hK dX7_init_5 rfl ?_
  refine nbg_put (pc := 6) (k := 0) (fs' := [.int v, .null, .null]) hK hI rfl in_X7 tyX7_ok nmX7 (by decide) q615 rfl rfl rfl rfl rfl (show 0 < 3 by decide) rfl dX7_init_6 ?_
  refine j_aload_n (pc := 9) hK dX7_init_9 rfl ?_
  refine j_aload_n (pc := 10) hK dX7_init_10 rfl ?_
  refine nbg_put (pc := 11) (k := 1) (fs' := [.int v, .ref b, .null]) hK hI rfl in_X7 tyX7_ok nmX7 (by decide) q616 rfl rfl rfl rfl rfl (show 1 < 3 by decide) rfl dX7_init_11 ?_
  refine j_aload_n (pc := 14) hK dX7_init_14 rfl ?_
  refine j_aload_n (pc := 15) hK dX7_init_15 rfl ?_
  refine nbg_put (pc := 16) (k := 2) (fs' := [.int v, .ref b, .ref c]) hK hI rfl in_X7 tyX7_ok nmX7 (by decide) q617 rfl rfl rfl rfl rfl (show 2 < 3 by decide) rfl dX7_init_16 ?_
  exact j_vret (pc := 19) hK hQ (nle rfl) (nle rfl) dX7_init_19 (fun h w => ⟨rfl, w⟩)
theorem xq_isC : IsC (XQ Γ L f g T φ R) (L 35) RX0 := fun h w => xi_isC (fun _ w => w) h w.1
theorem c_XneedT (hR : StR R) (hn : n ≤ 160) (hp : p ≤ n) {v : Int32} (hv : ¬ v = 0) : Ct Γ A yX0_need wX0_need 8 0 0 [.ref (L 35), .int v] (XQ Γ L f g T (TB t n p o) R) (NX Γ L f g T t n p o R) := by
  refine Ct.of (cc := cX0_need) (nL := 2) (ret := none) (ls := [some (.ref (L 35)), some (.int v)]) rfl rfl rfl (nle rfl) ?_
  intro K hK hQ
  refine j_iload_n (pc := 0) hK dX0_need_0 rfl ?_
  refine j_if_ne (pc := 1) (tgt := 9) hK dX0_need_1 (by decide) (fun c1 => ?_) (fun c1 => absurd c1 hv)
  refine j_aload_n (pc := 9) hK dX0_need_9 rfl ?_
  refine j_callV (pc := 10) hK hQ (c_Xnext hR hn hp) cal_X0_next xq_isC q395 dX0_need_10 rfl rfl (nle rfl) (nle rfl) (nle rfl) (nle rfl) (kr_t (kr_v ?_)) (kx_t nt_v fun x => jt_leave hK hQ (by decide) (nle rfl) (nle rfl) (fun h w => Or.inr ⟨_, rfl, w⟩))
  exact j_vret (pc := 13) hK hQ (nle rfl) (nle rfl) dX0_need_13 (fun h w => Or.inl ⟨rfl, w⟩)
theorem c_XneedF : Ct Γ A yX0_need wX0_need 8 0 0 [.ref (L 35), .int 0] (XQ Γ L f g T φ R) (RT (RV fun _ => False) (fun e h => e = L 10 ∧ XQ Γ L f g T φ R h)) := by
  refine Ct.of (cc := cX0_need) (nL := 2) (ret := none) (ls := [some (.ref (L 35)), some (.int 0)]) rfl rfl rfl (nle rfl) ?_
  intro K hK hQ
  refine xz_open fun x r e => ?_
  refine j_iload_n (pc := 0) hK dX0_need_0 rfl ?_
  refine j_if_ne (pc := 1) (tgt := 9) hK dX0_need_1 (by decide) (fun c1 => absurd rfl c1) (fun c1 => ?_)
  refine j_aload_n (pc := 4) hK dX0_need_4 rfl ?_
  refine xc_getR (pc := 5) (k := 10) hK (fun _ w => w.1) (by decide) rfl q760 rfl dX0_need_5 ?_
  refine j_athrow (pc := 8) hK dX0_need_8 ?_
  exact jt_leave hK hQ (by decide) (nle rfl) (nle rfl) (fun h w => Or.inr ⟨_, rfl, rfl, xz_close w r e⟩)
theorem c_XopenT (hR : StR R) (hn : n ≤ 160) (hp : p ≤ n) (ho : o < 5) : Ct Γ A yX0_openOne wX0_openOne 9 0 0 [.ref (L 35)] (XQ Γ L f g T (TB t n p o) R) (NX Γ L f g T t n p (o + 1) R) := by
  refine Ct.of (cc := cX0_openOne) (nL := 1) (ret := none) (ls := [some (.ref (L 35))]) rfl rfl rfl (nle rfl) ?_
  intro K hK hQ
  refine xz_open fun x r e => ?_
  refine j_aload_n (pc := 0) hK dX0_openOne_0 rfl ?_
  refine j_aload_n (pc := 1) hK dX0_openOne_1 rfl ?_
  refine xc_get (pc := 2) (k := 23) (v := nI o) hK (fun _ w => w.1) (by decide) rfl e.2.2.2 q774 rfl dX0_openOne_2 ?_
  refine j_iconst (pc := 5) (v := 5) hK dX0_openOne_5 (by decide) ?_
  refine j_icmp_ge (pc := 6) (tgt := 13) hK dX0_openOne_6 (by decide) (fun c6 => absurd c6 (nI_ge ho (by decide))) (fun c6 => ?_)
  refine j_iconst (pc := 9) (v := 1) hK dX0_openOne_9 (by decide) ?_
  refine j_goto (pc := 10) (tgt := 14) hK dX0_openOne_10 (by decide) ?_
  refine J.mono (P' := XQ Γ L f g T (TB t n p o) R) (fun h w => xz_close w r e) ?_
  refine j_callV (pc := 14) hK hQ (c_XneedT hR hn hp (by decide)) cal_X0_need xq_isC q533 dX0_openOne_14 rfl rfl (nle rfl) (nle rfl) (nle rfl) (nle rfl) (kr_t (kr_v ?_)) (kx_t nt_v fun x => jt_leave hK hQ (by decide) (nle rfl) (nle rfl) (fun h w => Or.inr ⟨_, rfl, w⟩))
  refine J.pre fun hg => ?_
  refine xz_open fun x r e => ?_
  refine j_aload_n (pc := 17) hK dX0_openOne_17 rfl ?_
  refine j_dup (pc := 18) hK dX0_openOne_18 rfl ?_
  refine xc_get (pc := 19) (k := 23) (v := nI o) hK (fun _ w => w.1) (by decide) rfl e.1.2.2.2 q774 rfl dX0_openOne_19 ?_
  refine j_iconst (pc := 22) (v := 1) hK dX0_openOne_22 (by decide) ?_
  refine j_iadd (pc := 23) hK dX0_openOne_23 ?_
  refine xz_put (pc := 24) (k := 23) hR hK (by decide) rfl q774 rfl rfl rfl rfl dX0_openOne_24 ?_
  exact j_vret (pc := 27) hK hQ (nle rfl) (nle rfl) dX0_openOne_27 (fun h w => Or.inl ⟨rfl, hg, xz_close w (r.pH (k := 23) rfl) ⟨⟨e.1.1, e.1.2.1, e.1.2.2.1, nI_1 o⟩, e.2.1, e.2.2⟩⟩)
theorem c_XopenF (h5 : ∀ x, φ x → x.p 23 = nI 5) : Ct Γ A yX0_openOne wX0_openOne 9 0 0 [.ref (L 35)] (XQ Γ L f g T φ R) (RT (RV fun _ => False) (fun e h => e = L 10 ∧ XQ Γ L f g T φ R h)) := by
  refine Ct.of (cc := cX0_openOne) (nL := 1) (ret := none) (ls := [some (.ref (L 35))]) rfl rfl rfl (nle rfl) ?_
  intro K hK hQ
  refine xz_open fun x r e => ?_
  refine j_aload_n (pc := 0) hK dX0_openOne_0 rfl ?_
  refine j_aload_n (pc := 1) hK dX0_openOne_1 rfl ?_
  refine xc_get (pc := 2) (k := 23) (v := nI 5) hK (fun _ w => w.1) (by decide) rfl (h5 x e) q774 rfl dX0_openOne_2 ?_
  refine j_iconst (pc := 5) (v := 5) hK dX0_openOne_5 (by decide) ?_
  refine j_icmp_ge (pc := 6) (tgt := 13) hK dX0_openOne_6 (by decide) (fun c6 => ?_) (fun c6 => absurd (Int32.le_refl _) c6)
  refine j_iconst (pc := 13) (v := 0) hK dX0_openOne_13 (by decide) ?_
  refine J.mono (P' := XQ Γ L f g T φ R) (fun h w => xz_close w r e) ?_
  refine j_callV (pc := 14) hK hQ (c_XneedF) cal_X0_need xq_isC q533 dX0_openOne_14 rfl rfl (nle rfl) (nle rfl) (nle rfl) (nle rfl) (kr_t (kr_v ?_)) (kx_t nt_v fun x => jt_leave hK hQ (by decide) (nle rfl) (nle rfl) (fun h w => Or.inr ⟨_, rfl, w⟩))
  exact J.void (fun _ z => z)
end P75
