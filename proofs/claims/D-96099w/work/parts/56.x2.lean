/-! the trees of the texts are worked out -/
set_option maxRecDepth 100000
def vl (nm : Int32 → Int32) (c : List Int32) : Int32 := (evs nm c []).headD 0
theorem evs_app (nm : Int32 → Int32) : ∀ (a b S : List Int32), evs nm (a ++ b) S = evs nm b (evs nm a S) := by
  intro a
  induction a with
  | nil => intro b S; rfl
  | cons x a ih => intro b S; exact ih b (ev1 nm x S)
def ops : List (Int32 × Int32) := [(124, -11), (38, -12), (60, -14), (61, -15), (43, -16), (45, -17), (42, -18)]
theorem ev1_num {nm : Int32 → Int32} {v : Int32} (h : 0 ≤ v) (S : List Int32) : ev1 nm v S = v :: S := by
  unfold ev1
  rw [if_pos h]
theorem ev1_nam {nm : Int32 → Int32} {w : Int32} (h0 : 0 ≤ w) (h1 : w ≤ 5) (S : List Int32) : ev1 nm (-w - 1) S = nm w :: S := by
  obtain ⟨k, hk, rfl⟩ := nI_of2 (M := 5) (n := 5) (by decide) (Int32.not_lt.mpr h0) h1
  have a1 : ∀ j, j < 6 → ¬ (0 : Int32) ≤ -nI j - 1 ∧ (-7 : Int32) < -nI j - 1 ∧ -(-nI j - 1) - 1 = nI j := by decide +kernel
  obtain ⟨q1, q2, q3⟩ := a1 k (by omega)
  unfold ev1
  rw [if_neg q1, if_pos q2, q3]
theorem ev1_not {nm : Int32 → Int32} (y : Int32) (S : List Int32) : ev1 nm (-13) (y :: S) = b2i (y = 0) :: S := by
  unfold ev1
  rw [if_neg (by decide), if_neg (by decide)]
  simp
theorem ev1_neg {nm : Int32 → Int32} (y : Int32) (S : List Int32) : ev1 nm (-19) (y :: S) = (-y) :: S := by
  unfold ev1
  rw [if_neg (by decide), if_neg (by decide)]
  simp
theorem ev1_two {nm : Int32 → Int32} {sg op : Int32} (h : (sg, op) ∈ ops) (x y : Int32) (S : List Int32) : ev1 nm op (y :: x :: S) = op2 op x y :: S := by
  have h' : (sg = 124 ∧ op = -11) ∨ (sg = 38 ∧ op = -12) ∨ (sg = 60 ∧ op = -14) ∨ (sg = 61 ∧ op = -15) ∨ (sg = 43 ∧ op = -16) ∨ (sg = 45 ∧ op = -17) ∨ (sg = 42 ∧ op = -18) := by simpa [ops] using h
  unfold ev1
  rcases h' with ⟨-, rfl⟩ | ⟨-, rfl⟩ | ⟨-, rfl⟩ | ⟨-, rfl⟩ | ⟨-, rfl⟩ | ⟨-, rfl⟩ | ⟨-, rfl⟩ <;> (rw [if_neg (by decide), if_neg (by decide)]; simp)
theorem nt_evs {nm : Int32 → Int32} {h : PH} {o : Nat} : ∀ (n a : Nat) (c : List Int32), NT n h o a c → ∀ S, evs nm c S = vl nm c :: S := by
  intro n
  induction n with
  | zero => intro a c w; exact w.elim
  | succ n ih =>
    intro a c w
    rcases w with ⟨v, h0, h1, h2⟩ | ⟨v, h0, h3, h1, h2⟩ | ⟨b, c1, m, h1, h2, h3, h4⟩ | ⟨b1, b2, c1, c2, sg, op, h1, h2, h3, h4, h5⟩
    · subst h1
      have : ∀ S, evs nm [v] S = v :: S := fun S => ev1_num h0 S
      intro S
      unfold vl
      rw [this, this]
      rfl
    · subst h1
      have : ∀ S, evs nm [-v - 1] S = nm v :: S := fun S => ev1_nam h0 h3 S
      intro S
      unfold vl
      rw [this, this]
      rfl
    · have key : ∃ z, ∀ S, evs nm c S = z :: S := by
        rcases h2 with rfl | rfl
        · exact ⟨b2i (vl nm c1 = 0), fun S => by rw [h1, evs_app, ih _ _ h4 S, if_pos rfl]; exact ev1_not (nm := nm) _ S⟩
        · exact ⟨-vl nm c1, fun S => by rw [h1, evs_app, ih _ _ h4 S, if_neg (by decide)]; exact ev1_neg (nm := nm) _ S⟩
      obtain ⟨z, hz⟩ := key
      intro S
      unfold vl
      rw [hz, hz]
      rfl
    · have hz : ∀ S, evs nm c S = op2 op (vl nm c1) (vl nm c2) :: S := fun S => by
        rw [h1, evs_app, evs_app, ih _ _ h4 S, ih _ _ h5]
        exact ev1_two h2 _ _ S
      intro S
      unfold vl
      rw [hz, hz]
      rfl
theorem sub3 (a b c : Int32) : a - (b + c) = a - b - c := by grind
section X56
variable {Γ : Gam} {A : Nat → Prop} {L : Nat → Nat} {f : Nat → Int32} {g : Nat → Int32 → Int32} {T : TX} {P : PH → Prop} {φ : XD → Prop} {b : Int32}
/-- the world with the boat b asked for -/
abbrev FB (b : Int32) : XD → Prop := fun x => x.p 11 = b
/-- a number's node -/
theorem c_W5 {a : Nat} {v : Int32} (hv : ∀ h, P h → h a = some (.inr (4, [.int v]))) : Ct Γ A yX5_worth wX5_worth 5 0 0 [.ref a] P (RI fun r h => r = v ∧ P h) := by
  refine Ct.of (cc := cX5_worth) (nL := 1) (ret := (some .int)) (ls := [some (.ref a)]) rfl rfl rfl (nle rfl) ?_
  intro K hK hQ
  refine j_aload_n (pc := 0) hK dX5_worth_0 rfl ?_
  refine j_get (pc := 1) hK (ci := 4) (T := TX5) (k := 0) (v := .int v) rfl in_X5 (by decide) q588 (fun x h => h) dX5_worth_1 (fun h w => ⟨_, hv h w, rfl⟩) ?_
  exact j_iret (pc := 4) hK hQ (nle rfl) (nle rfl) dX5_worth_4 (fun h w => ⟨_, rfl, rfl, w⟩)
theorem c_W6 {a : Nat} {v : Int32} (hw : ∀ h, P h → XI Γ L f g T (FB b) h) (hb : Bo f b) (h0 : 0 ≤ v) (h5 : v ≤ 5) (hv : ∀ h, P h → h a = some (.inr (5, [.int v, .ref (L 35)]))) : Ct Γ A yX6_worth wX6_worth 5 0 0 [.ref a] P (RI fun r h => r = nmF f g b (g 3 b) (f 10) v ∧ P h) := by
  refine Ct.of (cc := cX6_worth) (nL := 1) (ret := (some .int)) (ls := [some (.ref a)]) rfl rfl rfl (nle rfl) ?_
  intro K hK hQ
  refine j_aload_n (pc := 0) hK dX6_worth_0 rfl ?_
  refine j_get (pc := 1) hK (ci := 5) (T := TX6) (k := 0) (v := .int v) rfl in_X6 (by decide) q598 (fun x h => h) dX6_worth_1 (fun h w => ⟨_, hv h w, rfl⟩) ?_
  refine j_table (pc := 4) hK dX6_worth_4 (by decide +kernel) (by decide +kernel) (fun cD4 => ?_) ⟨fun c4 => ?_, fun c4 => ?_, fun c4 => ?_, fun c4 => ?_, fun c4 => ?_, trivial⟩
  · have n4_0 := cD4 0 (by decide) (by decide)
    have n4_1 := cD4 1 (by decide) (by decide)
    have n4_2 := cD4 2 (by decide) (by decide)
    have n4_3 := cD4 3 (by decide) (by decide)
    have n4_4 := cD4 4 (by decide) (by decide)
    clear cD4
    skip
    refine j_aload_n (pc := 132) hK dX6_worth_132 rfl ?_
    refine j_get (pc := 133) hK (ci := 5) (T := TX6) (k := 1) (v := .ref (L 35)) rfl in_X6 (by decide) q599 (fun x h => h) dX6_worth_133 (fun h w => ⟨_, hv h w, rfl⟩) ?_
    refine xi_getNF (pc := 136) (k := 8) (n := 10) hK hw rfl rfl (by decide) rfl q757 rfl dX6_worth_136 ?_
    exact j_iret (pc := 139) hK hQ (nle rfl) (nle rfl) dX6_worth_139 (fun h w => ⟨_, rfl, (by unfold nmF; rw [if_neg n4_0, if_neg n4_1, if_neg n4_2, if_neg n4_3, if_neg n4_4]), w⟩)
  · replace c4 : _ = (0 : Int32) := c4
    subst c4
    refine j_aload_n (pc := 40) hK dX6_worth_40 rfl ?_
    refine j_get (pc := 41) hK (ci := 5) (T := TX6) (k := 1) (v := .ref (L 35)) rfl in_X6 (by decide) q599 (fun x h => h) dX6_worth_41 (fun h w => ⟨_, hv h w, rfl⟩) ?_
    refine xi_getNR (pc := 44) (k := 1) hK hw (by decide) rfl q748 rfl dX6_worth_44 ?_
    refine j_aload_n (pc := 47) hK dX6_worth_47 rfl ?_
    refine j_get (pc := 48) hK (ci := 5) (T := TX6) (k := 1) (v := .ref (L 35)) rfl in_X6 (by decide) q599 (fun x h => h) dX6_worth_48 (fun h w => ⟨_, hv h w, rfl⟩) ?_
    refine xi_getN (pc := 51) (k := 11) (v := b) hK hw (by decide) rfl (fun _ _ e => e) q761 rfl dX6_worth_51 ?_
    refine xi_aldB (pc := 54) (k := 1) (n := 3) hK hw (by decide) rfl rfl rfl rfl hb dX6_worth_54 ?_
    refine j_iconst (pc := 55) (v := 0) hK dX6_worth_55 (by decide) ?_
    refine j_callSN (pc := 56) hK hQ (c_Xfar _ _) cal_X0_far q319 dX6_worth_56 rfl rfl (nle rfl) (nle rfl) (nle rfl) (nle rfl) (kr_i fun r56 => ?_) kx_i
    refine J.pre fun e56 => ?_
    subst e56
    exact j_iret (pc := 59) hK hQ (nle rfl) (nle rfl) dX6_worth_59 (fun h w => ⟨_, rfl, rfl, w⟩)
  · replace c4 : _ = (1 : Int32) := c4
    subst c4
    refine j_aload_n (pc := 60) hK dX6_worth_60 rfl ?_
    refine j_get (pc := 61) hK (ci := 5) (T := TX6) (k := 1) (v := .ref (L 35)) rfl in_X6 (by decide) q599 (fun x h => h) dX6_worth_61 (fun h w => ⟨_, hv h w, rfl⟩) ?_
    refine xi_getNR (pc := 64) (k := 7) hK hw (by decide) rfl q755 rfl dX6_worth_64 ?_
    refine j_iconst (pc := 67) (v := 1) hK dX6_worth_67 (by decide) ?_
    refine xi_aldL (pc := 68) (i := 1) (n := 9) hK hw (by decide) rfl (by decide) dX6_worth_68 ?_
    exact j_iret (pc := 69) hK hQ (nle rfl) (nle rfl) dX6_worth_69 (fun h w => ⟨_, rfl, rfl, w⟩)
  · replace c4 : _ = (2 : Int32) := c4
    subst c4
    refine j_aload_n (pc := 70) hK dX6_worth_70 rfl ?_
    refine j_get (pc := 71) hK (ci := 5) (T := TX6) (k := 1) (v := .ref (L 35)) rfl in_X6 (by decide) q599 (fun x h => h) dX6_worth_71 (fun h w => ⟨_, hv h w, rfl⟩) ?_
    refine xi_getNF (pc := 74) (k := 8) (n := 10) hK hw rfl rfl (by decide) rfl q757 rfl dX6_worth_74 ?_
    refine j_aload_n (pc := 77) hK dX6_worth_77 rfl ?_
    refine j_get (pc := 78) hK (ci := 5) (T := TX6) (k := 1) (v := .ref (L 35)) rfl in_X6 (by decide) q599 (fun x h => h) dX6_worth_78 (fun h w => ⟨_, hv h w, rfl⟩) ?_
    refine j_aload_n (pc := 81) hK dX6_worth_81 rfl ?_
    refine j_get (pc := 82) hK (ci := 5) (T := TX6) (k := 1) (v := .ref (L 35)) rfl in_X6 (by decide) q599 (fun x h => h) dX6_worth_82 (fun h w => ⟨_, hv h w, rfl⟩) ?_
    refine xi_getN (pc := 85) (k := 11) (v := b) hK hw (by decide) rfl (fun _ _ e => e) q761 rfl dX6_worth_85 ?_
    refine j_callVN (pc := 88) hK hQ (c_Xdue hw hb) cal_X0_due (xi_isC hw) q320 dX6_worth_88 rfl rfl (nle rfl) (nle rfl) (nle rfl) (nle rfl) (kr_i fun r88 => ?_) kx_i
    refine J.pre fun e88 => ?_
    subst e88
    refine j_isub (pc := 91) hK dX6_worth_91 ?_
    exact j_iret (pc := 92) hK hQ (nle rfl) (nle rfl) dX6_worth_92 (fun h w => ⟨_, rfl, sub3 _ _ _, w⟩)
  · replace c4 : _ = (3 : Int32) := c4
    subst c4
    refine j_aload_n (pc := 93) hK dX6_worth_93 rfl ?_
    refine j_get (pc := 94) hK (ci := 5) (T := TX6) (k := 1) (v := .ref (L 35)) rfl in_X6 (by decide) q599 (fun x h => h) dX6_worth_94 (fun h w => ⟨_, hv h w, rfl⟩) ?_
    refine j_aload_n (pc := 97) hK dX6_worth_97 rfl ?_
    refine j_get (pc := 98) hK (ci := 5) (T := TX6) (k := 1) (v := .ref (L 35)) rfl in_X6 (by decide) q599 (fun x h => h) dX6_worth_98 (fun h w => ⟨_, hv h w, rfl⟩) ?_
    refine xi_getNR (pc := 101) (k := 1) hK hw (by decide) rfl q748 rfl dX6_worth_101 ?_
    refine j_aload_n (pc := 104) hK dX6_worth_104 rfl ?_
    refine j_get (pc := 105) hK (ci := 5) (T := TX6) (k := 1) (v := .ref (L 35)) rfl in_X6 (by decide) q599 (fun x h => h) dX6_worth_105 (fun h w => ⟨_, hv h w, rfl⟩) ?_
    refine xi_getN (pc := 108) (k := 11) (v := b) hK hw (by decide) rfl (fun _ _ e => e) q761 rfl dX6_worth_108 ?_
    refine xi_aldB (pc := 111) (k := 1) (n := 3) hK hw (by decide) rfl rfl rfl rfl hb dX6_worth_111 ?_
    refine j_callVN (pc := 112) hK hQ (c_XisHidden hw _) cal_X0_isHidden (xi_isC hw) q324 dX6_worth_112 rfl rfl (nle rfl) (nle rfl) (nle rfl) (nle rfl) (kr_i fun r112 => ?_) kx_i
    refine J.pre fun e112 => ?_
    subst e112
    refine j_if_eq_b (pc := 115) (tgt := 122) hK dX6_worth_115 (by decide) (fun c115 => ?_) (fun c115 => ?_)
    · refine j_iconst (pc := 122) (v := 0) hK dX6_worth_122 (by decide) ?_
      exact j_iret (pc := 123) hK hQ (nle rfl) (nle rfl) dX6_worth_123 (fun h w => ⟨_, rfl, (by first | exact (b2i_t c115).symm | exact (b2i_f c115).symm), w⟩)
    · refine j_iconst (pc := 118) (v := 1) hK dX6_worth_118 (by decide) ?_
      refine j_goto (pc := 119) (tgt := 123) hK dX6_worth_119 (by decide) ?_
      exact j_iret (pc := 123) hK hQ (nle rfl) (nle rfl) dX6_worth_123 (fun h w => ⟨_, rfl, (by first | exact (b2i_t c115).symm | exact (b2i_f c115).symm), w⟩)
  · replace c4 : _ = (4 : Int32) := c4
    subst c4
    refine j_aload_n (pc := 124) hK dX6_worth_124 rfl ?_
    refine j_get (pc := 125) hK (ci := 5) (T := TX6) (k := 1) (v := .ref (L 35)) rfl in_X6 (by decide) q599 (fun x h => h) dX6_worth_125 (fun h w => ⟨_, hv h w, rfl⟩) ?_
    refine xi_getN (pc := 128) (k := 11) (v := b) hK hw (by decide) rfl (fun _ _ e => e) q761 rfl dX6_worth_128 ?_
    exact j_iret (pc := 131) hK hQ (nle rfl) (nle rfl) dX6_worth_131 (fun h w => ⟨_, rfl, rfl, w⟩)
/-- the value of a node not deeper than n, wherever it is asked for -/
def RowW (Γ : Gam) (A : Nat → Prop) (L : Nat → Nat) (f : Nat → Int32) (g : Nat → Int32 → Int32) (T : TX) (b : Int32) (n : Nat) : Prop := ∀ (K : JC) (cc : ByteArray) (nL : Nat) (own : String) (hh : List (Nat × Nat × Nat × Nat)) (pc idx : Nat) (ls : List (Option Value)) (st : List Value) (cs ss d mc ms : Nat) (ret : Option FieldType) (Φ : Outcome → PH → Prop) (a : Nat) (c : List Int32) (P : PH → Prop), (∀ h, P h → XI Γ L f g T (FB b) h) → (∀ h, P h → NT n h (L 35) a c) →
  Jok Γ A K cc nL own hh → Kq Γ A K d mc ms ret Φ → Cond.methodLink own idx ⟨RX3, "worth", "()I"⟩ ∈ lw_all → decode cc pc = .ok (.invokevirtual idx, 3) → 10 + n < d → cs ≤ mc → ss ≤ ms → (st.map fun v => v.category).sum ≤ 8 → J Γ A K (pc + 3) ls (.int (vl (nmF f g b (g 3 b) (f 10)) c) :: st) P cs ss → J Γ A K pc ls (.ref a :: st) P cs ss
theorem J.or {K : JC} {pc : Nat} {ls : List (Option Value)} {st : List Value} {cs ss : Nat} {P Q : PH → Prop} (k1 : J Γ A K pc ls st P cs ss) (k2 : J Γ A K pc ls st Q cs ss) : J Γ A K pc ls st (fun h => P h ∨ Q h) cs ss := fun x H locs arr hP hR hL => hP.elim (fun q => k1 x H locs arr q hR hL) (fun q => k2 x H locs arr q hR hL)
theorem c_W4 {n a c0 : Nat} {m : Int32} {c : List Int32} (ih : RowW Γ A L f g T b n) (hw : ∀ h, P h → XI Γ L f g T (FB b) h) (hm : m = 0 ∨ m = 1) (hv : ∀ h, P h → h a = some (.inr (3, [.ref c0, .int m])) ∧ NT n h (L 35) c0 c) : Ct Γ A yX4_worth wX4_worth (11 + n) 0 0 [.ref a] P (RI fun r h => r = vl (nmF f g b (g 3 b) (f 10)) (c ++ [if m = 0 then -13 else -19]) ∧ P h) := by
  refine J.name (F := fun z => Ct Γ A yX4_worth wX4_worth (11 + n) 0 0 [.ref a] P (RI fun r h => r = z ∧ P h)) _ (fun z ez => ?_)
  refine Ct.of (cc := cX4_worth) (nL := 2) (ret := (some .int)) (ls := [some (.ref a), none]) rfl rfl rfl (nle rfl) ?_
  intro K hK hQ
  refine J.inv (p := ∀ S, evs (nmF f g b (g 3 b) (f 10)) c S = vl (nmF f g b (g 3 b) (f 10)) c :: S) (fun h w => nt_evs n c0 c (hv h w).2) fun hev => ?_
  refine j_aload_n (pc := 0) hK dX4_worth_0 rfl ?_
  refine j_get (pc := 1) hK (ci := 3) (T := TX4) (k := 0) (v := .ref c0) rfl in_X4 (by decide) q562 (fun x h => h) dX4_worth_1 (fun h w => ⟨_, (hv h w).1, rfl⟩) ?_
  refine ih K _ _ _ _ 4 _ _ _ _ _ _ _ _ _ _ _ c P hw (fun h w => (hv h w).2) hK hQ q334 dX4_worth_4 (by omega) (Nat.le_refl _) (Nat.le_refl _) (by decide) ?_
  refine j_ist1 (pc := 7) hK dX4_worth_7 (by decide) rfl ?_
  refine j_aload_n (pc := 8) hK dX4_worth_8 rfl ?_
  refine j_get (pc := 9) hK (ci := 3) (T := TX4) (k := 1) (v := .int m) rfl in_X4 (by decide) q563 (fun x h => h) dX4_worth_9 (fun h w => ⟨_, (hv h w).1, rfl⟩) ?_
  refine j_if_eq (pc := 12) (tgt := 20) hK dX4_worth_12 (by decide) (fun c12 => ?_) (fun c12 => ?_)
  · refine j_iload_n (pc := 20) hK dX4_worth_20 rfl ?_
    refine j_if_ne (pc := 21) (tgt := 28) hK dX4_worth_21 (by decide) (fun c21 => ?_) (fun c21 => ?_)
    · refine j_iconst (pc := 28) (v := 0) hK dX4_worth_28 (by decide) ?_
      exact j_iret (pc := 29) hK hQ (nle rfl) (nle rfl) dX4_worth_29 (fun h w => ⟨_, rfl, (by rw [ez]; unfold vl; rw [evs_app]; show _ = (ev1 _ _ _).headD 0; first | (rw [if_pos c12, show evs (nmF f g b (g 3 b) (f 10)) c [] = _ from hev [], ev1_not]; first | exact (b2i_t c21).symm | exact (b2i_f c21).symm) | (rw [if_neg c12, show evs (nmF f g b (g 3 b) (f 10)) c [] = _ from hev [], ev1_neg]; rfl)), w⟩)
    · refine j_iconst (pc := 24) (v := 1) hK dX4_worth_24 (by decide) ?_
      refine j_goto (pc := 25) (tgt := 29) hK dX4_worth_25 (by decide) ?_
      exact j_iret (pc := 29) hK hQ (nle rfl) (nle rfl) dX4_worth_29 (fun h w => ⟨_, rfl, (by rw [ez]; unfold vl; rw [evs_app]; show _ = (ev1 _ _ _).headD 0; first | (rw [if_pos c12, show evs (nmF f g b (g 3 b) (f 10)) c [] = _ from hev [], ev1_not]; first | exact (b2i_t c21).symm | exact (b2i_f c21).symm) | (rw [if_neg c12, show evs (nmF f g b (g 3 b) (f 10)) c [] = _ from hev [], ev1_neg]; rfl)), w⟩)
  · refine j_iload_n (pc := 15) hK dX4_worth_15 rfl ?_
    refine j_ineg (pc := 16) hK dX4_worth_16 ?_
    refine j_goto (pc := 17) (tgt := 29) hK dX4_worth_17 (by decide) ?_
    exact j_iret (pc := 29) hK hQ (nle rfl) (nle rfl) dX4_worth_29 (fun h w => ⟨_, rfl, (by rw [ez]; unfold vl; rw [evs_app]; show _ = (ev1 _ _ _).headD 0; first | (rw [if_pos c12, show evs (nmF f g b (g 3 b) (f 10)) c [] = _ from hev [], ev1_not]; first | exact (b2i_t c21).symm | exact (b2i_f c21).symm) | (rw [if_neg c12, show evs (nmF f g b (g 3 b) (f 10)) c [] = _ from hev [], ev1_neg]; rfl)), w⟩)
theorem c_W7 {n a a1 a2 : Nat} {sg op : Int32} {c1 c2 : List Int32} (ih : RowW Γ A L f g T b n) (hw : ∀ h, P h → XI Γ L f g T (FB b) h) (hm : (sg, op) ∈ ops) (hv : ∀ h, P h → h a = some (.inr (6, [.int sg, .ref a1, .ref a2])) ∧ NT n h (L 35) a1 c1 ∧ NT n h (L 35) a2 c2) : Ct Γ A yX7_worth wX7_worth (11 + n) 0 0 [.ref a] P (RI fun r h => r = vl (nmF f g b (g 3 b) (f 10)) (c1 ++ c2 ++ [op]) ∧ P h) := by
  refine J.name (F := fun z => Ct Γ A yX7_worth wX7_worth (11 + n) 0 0 [.ref a] P (RI fun r h => r = z ∧ P h)) _ (fun z ez => ?_)
  refine Ct.of (cc := cX7_worth) (nL := 3) (ret := (some .int)) (ls := [some (.ref a), none, none]) rfl rfl rfl (nle rfl) ?_
  intro K hK hQ
  refine J.inv (p := z = op2 op (vl (nmF f g b (g 3 b) (f 10)) c1) (vl (nmF f g b (g 3 b) (f 10)) c2)) (fun h w => ?_) fun hev => ?_
  · rw [ez]
    unfold vl
    rw [evs_app, evs_app, nt_evs n a1 c1 (hv h w).2.1, nt_evs n a2 c2 (hv h w).2.2]
    show (ev1 _ _ _).headD 0 = _
    rw [ev1_two hm]
    rfl
  clear ez
  subst hev
  refine j_aload_n (pc := 0) hK dX7_worth_0 rfl ?_
  refine j_get (pc := 1) hK (ci := 6) (T := TX7) (k := 1) (v := .ref a1) rfl in_X7 (by decide) q616 (fun x h => h) dX7_worth_1 (fun h w => ⟨_, (hv h w).1, rfl⟩) ?_
  refine ih K _ _ _ _ 4 _ _ _ _ _ _ _ _ _ _ _ c1 P hw (fun h w => (hv h w).2.1) hK hQ q337 dX7_worth_4 (by omega) (Nat.le_refl _) (Nat.le_refl _) (by decide) ?_
  refine j_ist1 (pc := 7) hK dX7_worth_7 (by decide) rfl ?_
  refine j_aload_n (pc := 8) hK dX7_worth_8 rfl ?_
  refine j_get (pc := 9) hK (ci := 6) (T := TX7) (k := 2) (v := .ref a2) rfl in_X7 (by decide) q617 (fun x h => h) dX7_worth_9 (fun h w => ⟨_, (hv h w).1, rfl⟩) ?_
  refine ih K _ _ _ _ 12 _ _ _ _ _ _ _ _ _ _ _ c2 P hw (fun h w => (hv h w).2.2) hK hQ q337 dX7_worth_12 (by omega) (Nat.le_refl _) (Nat.le_refl _) (by decide) ?_
  refine j_ist2 (pc := 15) hK dX7_worth_15 (by decide) rfl ?_
  refine j_aload_n (pc := 16) hK dX7_worth_16 rfl ?_
  refine j_get (pc := 17) hK (ci := 6) (T := TX7) (k := 0) (v := .int sg) rfl in_X7 (by decide) q615 (fun x h => h) dX7_worth_17 (fun h w => ⟨_, (hv h w).1, rfl⟩) ?_
  have hm' : (sg = 124 ∧ op = -11) ∨ (sg = 38 ∧ op = -12) ∨ (sg = 60 ∧ op = -14) ∨ (sg = 61 ∧ op = -15) ∨ (sg = 43 ∧ op = -16) ∨ (sg = 45 ∧ op = -17) ∨ (sg = 42 ∧ op = -18) := by simpa [ops] using hm
  rcases hm' with ⟨rfl, rfl⟩ | ⟨rfl, rfl⟩ | ⟨rfl, rfl⟩ | ⟨rfl, rfl⟩ | ⟨rfl, rfl⟩ | ⟨rfl, rfl⟩ | ⟨rfl, rfl⟩
  · refine j_lookup (pc := 20) (tgt := 128) hK dX7_worth_20 (by decide +kernel) (off := 108) (by decide +kernel) (by decide) ?_
    refine j_iload_n (pc := 128) hK dX7_worth_128 rfl ?_
    refine j_if_ne (pc := 129) (tgt := 136) hK dX7_worth_129 (by decide) (fun c129 => ?_) (fun c129 => ?_)
    · refine j_iconst (pc := 136) (v := 1) hK dX7_worth_136 (by decide) ?_
      refine j_goto (pc := 137) (tgt := 141) hK dX7_worth_137 (by decide) ?_
      exact j_iret (pc := 141) hK hQ (nle rfl) (nle rfl) dX7_worth_141 (fun h w => ⟨_, rfl, (by first | rfl | (simp [op2, b2i, *])), w⟩)
    · refine j_iload_n (pc := 132) hK dX7_worth_132 rfl ?_
      refine j_if_eq (pc := 133) (tgt := 140) hK dX7_worth_133 (by decide) (fun c133 => ?_) (fun c133 => ?_)
      · refine j_iconst (pc := 140) (v := 0) hK dX7_worth_140 (by decide) ?_
        exact j_iret (pc := 141) hK hQ (nle rfl) (nle rfl) dX7_worth_141 (fun h w => ⟨_, rfl, (by first | rfl | (simp [op2, b2i, *])), w⟩)
      · refine j_iconst (pc := 136) (v := 1) hK dX7_worth_136 (by decide) ?_
        refine j_goto (pc := 137) (tgt := 141) hK dX7_worth_137 (by decide) ?_
        exact j_iret (pc := 141) hK hQ (nle rfl) (nle rfl) dX7_worth_141 (fun h w => ⟨_, rfl, (by first | rfl | (simp [op2, b2i, *])), w⟩)
  · refine j_lookup (pc := 20) (tgt := 114) hK dX7_worth_20 (by decide +kernel) (off := 94) (by decide +kernel) (by decide) ?_
    refine j_iload_n (pc := 114) hK dX7_worth_114 rfl ?_
    refine j_if_eq (pc := 115) (tgt := 126) hK dX7_worth_115 (by decide) (fun c115 => ?_) (fun c115 => ?_)
    · refine j_iconst (pc := 126) (v := 0) hK dX7_worth_126 (by decide) ?_
      exact j_iret (pc := 127) hK hQ (nle rfl) (nle rfl) dX7_worth_127 (fun h w => ⟨_, rfl, (by first | rfl | (simp [op2, b2i, *])), w⟩)
    · refine j_iload_n (pc := 118) hK dX7_worth_118 rfl ?_
      refine j_if_eq (pc := 119) (tgt := 126) hK dX7_worth_119 (by decide) (fun c119 => ?_) (fun c119 => ?_)
      · refine j_iconst (pc := 126) (v := 0) hK dX7_worth_126 (by decide) ?_
        exact j_iret (pc := 127) hK hQ (nle rfl) (nle rfl) dX7_worth_127 (fun h w => ⟨_, rfl, (by first | rfl | (simp [op2, b2i, *])), w⟩)
      · refine j_iconst (pc := 122) (v := 1) hK dX7_worth_122 (by decide) ?_
        refine j_goto (pc := 123) (tgt := 127) hK dX7_worth_123 (by decide) ?_
        exact j_iret (pc := 127) hK hQ (nle rfl) (nle rfl) dX7_worth_127 (fun h w => ⟨_, rfl, (by first | rfl | (simp [op2, b2i, *])), w⟩)
  · refine j_lookup (pc := 20) (tgt := 92) hK dX7_worth_20 (by decide +kernel) (off := 72) (by decide +kernel) (by decide) ?_
    refine j_iload_n (pc := 92) hK dX7_worth_92 rfl ?_
    refine j_iload_n (pc := 93) hK dX7_worth_93 rfl ?_
    refine j_icmp_ge (pc := 94) (tgt := 101) hK dX7_worth_94 (by decide) (fun c94 => ?_) (fun c94 => ?_)
    · refine j_iconst (pc := 101) (v := 0) hK dX7_worth_101 (by decide) ?_
      exact j_iret (pc := 102) hK hQ (nle rfl) (nle rfl) dX7_worth_102 (fun h w => ⟨_, rfl, (by first | rfl | (simp [op2, b2i, *])), w⟩)
    · refine j_iconst (pc := 97) (v := 1) hK dX7_worth_97 (by decide) ?_
      refine j_goto (pc := 98) (tgt := 102) hK dX7_worth_98 (by decide) ?_
      exact j_iret (pc := 102) hK hQ (nle rfl) (nle rfl) dX7_worth_102 (fun h w => ⟨_, rfl, (by first | rfl | (simp [op2, b2i, *])), w⟩)
  · refine j_lookup (pc := 20) (tgt := 103) hK dX7_worth_20 (by decide +kernel) (off := 83) (by decide +kernel) (by decide) ?_
    refine j_iload_n (pc := 103) hK dX7_worth_103 rfl ?_
    refine j_iload_n (pc := 104) hK dX7_worth_104 rfl ?_
    refine j_icmp_ne (pc := 105) (tgt := 112) hK dX7_worth_105 (by decide) (fun c105 => ?_) (fun c105 => ?_)
    · refine j_iconst (pc := 112) (v := 0) hK dX7_worth_112 (by decide) ?_
      exact j_iret (pc := 113) hK hQ (nle rfl) (nle rfl) dX7_worth_113 (fun h w => ⟨_, rfl, (by first | rfl | (simp [op2, b2i, *])), w⟩)
    · refine j_iconst (pc := 108) (v := 1) hK dX7_worth_108 (by decide) ?_
      refine j_goto (pc := 109) (tgt := 113) hK dX7_worth_109 (by decide) ?_
      exact j_iret (pc := 113) hK hQ (nle rfl) (nle rfl) dX7_worth_113 (fun h w => ⟨_, rfl, (by first | rfl | (simp [op2, b2i, *])), w⟩)
  · refine j_lookup (pc := 20) (tgt := 80) hK dX7_worth_20 (by decide +kernel) (off := 60) (by decide +kernel) (by decide) ?_
    refine j_iload_n (pc := 80) hK dX7_worth_80 rfl ?_
    refine j_iload_n (pc := 81) hK dX7_worth_81 rfl ?_
    refine j_iadd (pc := 82) hK dX7_worth_82 ?_
    exact j_iret (pc := 83) hK hQ (nle rfl) (nle rfl) dX7_worth_83 (fun h w => ⟨_, rfl, (by first | rfl | (simp [op2, b2i, *])), w⟩)
  · refine j_lookup (pc := 20) (tgt := 84) hK dX7_worth_20 (by decide +kernel) (off := 64) (by decide +kernel) (by decide) ?_
    refine j_iload_n (pc := 84) hK dX7_worth_84 rfl ?_
    refine j_iload_n (pc := 85) hK dX7_worth_85 rfl ?_
    refine j_isub (pc := 86) hK dX7_worth_86 ?_
    exact j_iret (pc := 87) hK hQ (nle rfl) (nle rfl) dX7_worth_87 (fun h w => ⟨_, rfl, (by first | rfl | (simp [op2, b2i, *])), w⟩)
  · refine j_lookup (pc := 20) (tgt := 88) hK dX7_worth_20 (by decide +kernel) (off := 68) (by decide +kernel) (by decide) ?_
    refine j_iload_n (pc := 88) hK dX7_worth_88 rfl ?_
    refine j_iload_n (pc := 89) hK dX7_worth_89 rfl ?_
    refine j_imul (pc := 90) hK dX7_worth_90 ?_
    exact j_iret (pc := 91) hK hQ (nle rfl) (nle rfl) dX7_worth_91 (fun h w => ⟨_, rfl, (by first | rfl | (simp [op2, b2i, *])), w⟩)
theorem rowW : ∀ n, Bo f b → RowW Γ A L f g T b n := by
  intro n hb
  induction n with
  | zero =>
    intro K cc nL own hh pc idx ls st cs ss d mc ms ret Φ a c P hw hn hK hQ hl hd hdd hcs hss hsum kk
    exact J.void (fun h w => hn h w)
  | succ n ih =>
    intro K cc nL own hh pc idx ls st cs ss d mc ms ret Φ a c P hw hn hK hQ hl hd hdd hcs hss hsum kk
    refine J.mono (P' := fun h => (P h ∧ ∃ v, 0 ≤ v ∧ c = [v] ∧ h a = some (.inr (4, [.int v]))) ∨ (P h ∧ ∃ w, 0 ≤ w ∧ w ≤ 5 ∧ c = [-w - 1] ∧ h a = some (.inr (5, [.int w, .ref (L 35)]))) ∨ (P h ∧ ∃ b c1 m, c = c1 ++ [if m = 0 then -13 else -19] ∧ (m = 0 ∨ m = 1) ∧ h a = some (.inr (3, [.ref b, .int m])) ∧ NT n h (L 35) b c1) ∨ (P h ∧ ∃ b1 b2 c1 c2 sg op, c = c1 ++ c2 ++ [op] ∧ (sg, op) ∈ ops ∧ h a = some (.inr (6, [.int sg, .ref b1, .ref b2])) ∧ NT n h (L 35) b1 c1 ∧ NT n h (L 35) b2 c2)) (fun h w => ?_) ?_
    · rcases hn h w with q | q | q | q
      · exact Or.inl ⟨w, q⟩
      · exact Or.inr (Or.inl ⟨w, q⟩)
      · exact Or.inr (Or.inr (Or.inl ⟨w, q⟩))
      · exact Or.inr (Or.inr (Or.inr ⟨w, q⟩))
    have sub : ∀ {Q : PH → Prop} {y : MethodName} {ws : List Cond} {Ln : Nat} {C : String} {e : Nat}, (∀ h, Q h → P h) → IsC Q a C → CalV C ⟨RX3, "worth", "()I"⟩ y ws Ln 0 → e < d → Ct Γ A y ws e 0 0 [.ref a] Q (RI fun r h => r = vl (nmF f g b (g 3 b) (f 10)) c ∧ Q h) → J Γ A K pc ls (.ref a :: st) Q cs ss := by
      intro Q y ws Ln C e hQP hC cal he hCt
      refine j_callU (x := ⟨RX3, "worth", "()I"⟩) (owner := RX3) (as := []) hK hQ hCt cal hC hl q315 ⟨by decide, by decide⟩ (fun s hw B ts => va_Decl.abs (va_Nw.warmD hw (va_Nw.of rfl (hK.g.1 _ q314)))) hd rfl rfl he hcs hss hsum (kr_i fun r => J.pre fun er => ?_) kx_i
      subst er
      exact J.mono hQP kk
    refine J.or ?_ (J.or ?_ (J.or ?_ ?_))
    · refine J.mono (P' := fun h => ∃ v, (0 ≤ v ∧ c = [v]) ∧ (P h ∧ h a = some (.inr (4, [.int v])))) (fun h ⟨w, v, q1, q2, q3⟩ => ⟨v, ⟨q1, q2⟩, w, q3⟩) (J.ex fun v => J.pre fun ⟨q1, q2⟩ => ?_)
      subst q2
      refine sub (fun h w => w.1) (fun h w => ⟨4, _, (RX5, TX5, 1), w.2, rfl, rfl⟩) calU_X5_X3_worth (by omega : 5 < d) ?_
      have e : vl (nmF f g b (g 3 b) (f 10)) [v] = v := by show (ev1 _ _ _).headD 0 = v; rw [ev1_num q1]; rfl
      rw [e]
      exact c_W5 (fun h w => w.2)
    · refine J.mono (P' := fun h => ∃ v, (0 ≤ v ∧ v ≤ 5 ∧ c = [-v - 1]) ∧ (P h ∧ h a = some (.inr (5, [.int v, .ref (L 35)])))) (fun h ⟨w, v, q1, q2, q3, q4⟩ => ⟨v, ⟨q1, q2, q3⟩, w, q4⟩) (J.ex fun v => J.pre fun ⟨q1, q2, q3⟩ => ?_)
      subst q3
      refine sub (fun h w => w.1) (fun h w => ⟨5, _, (RX6, TX6, 2), w.2, rfl, rfl⟩) calU_X6_X3_worth (by omega : 5 < d) ?_
      have e : vl (nmF f g b (g 3 b) (f 10)) [-v - 1] = nmF f g b (g 3 b) (f 10) v := by show (ev1 _ _ _).headD 0 = _; rw [ev1_nam q1 q2]; rfl
      rw [e]
      exact c_W6 (fun h w => hw h w.1) hb q1 q2 (fun h w => w.2)
    · refine J.mono (P' := fun h => ∃ c0 c1 m, (c = c1 ++ [if m = 0 then -13 else -19] ∧ (m = 0 ∨ m = 1)) ∧ (P h ∧ h a = some (.inr (3, [.ref c0, .int m])) ∧ NT n h (L 35) c0 c1)) (fun h ⟨w, c0, c1, m, q1, q2, q3, q4⟩ => ⟨c0, c1, m, ⟨q1, q2⟩, w, q3, q4⟩) (J.ex fun c0 => J.ex fun c1 => J.ex fun m => J.pre fun ⟨q1, q2⟩ => ?_)
      subst q1
      exact sub (fun h w => w.1) (fun h w => ⟨3, _, (RX4, TX4, 2), w.2.1, rfl, rfl⟩) calU_X4_X3_worth (by omega : 11 + n < d) (c_W4 ih (fun h w => hw h w.1) q2 (fun h w => w.2))
    · refine J.mono (P' := fun h => ∃ a1 a2 c1 c2 sg op, (c = c1 ++ c2 ++ [op] ∧ (sg, op) ∈ ops) ∧ (P h ∧ h a = some (.inr (6, [.int sg, .ref a1, .ref a2])) ∧ NT n h (L 35) a1 c1 ∧ NT n h (L 35) a2 c2)) (fun h ⟨w, a1, a2, c1, c2, sg, op, q1, q2, q3, q4, q5⟩ => ⟨a1, a2, c1, c2, sg, op, ⟨q1, q2⟩, w, q3, q4, q5⟩) (J.ex fun a1 => J.ex fun a2 => J.ex fun c1 => J.ex fun c2 => J.ex fun sg => J.ex fun op => J.pre fun ⟨q1, q2⟩ => ?_)
      subst q1
      exact sub (fun h w => w.1) (fun h w => ⟨6, _, (RX7, TX7, 3), w.2.1, rfl, rfl⟩) calU_X7_X3_worth (by omega : 11 + n < d) (c_W7 ih (fun h w => hw h w.1) q2 (fun h w => w.2))
end X56
