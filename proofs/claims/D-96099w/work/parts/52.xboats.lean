/-! the boats' own methods -/
set_option maxRecDepth 100000
/-- the object at a is a boat of the kind k (0 to 5) with the number n -/
def BtA (P : PH → Prop) (a k : Nat) (n : Int32) : Prop := k ≤ 5 ∧ ∀ h, P h → h a = some (.inr (8 + k, [.int n]))
def clB : Nat → String
  | 0 => RX9 | 1 => RX10 | 2 => RX11 | 3 => RX12 | 4 => RX13 | _ => RX14
theorem k6 {k : Nat} (h : k ≤ 5) : k = 0 ∨ k = 1 ∨ k = 2 ∨ k = 3 ∨ k = 4 ∨ k = 5 := by omega
section X52
variable {Γ : Gam} {A : Nat → Prop} {P : PH → Prop} {a k : Nat} {n : Int32}
theorem BtA.isC (hb : BtA P a k n) : IsC P a (clB k) := fun h hP => by
  have h1 := hb.2 h hP
  rcases k6 hb.1 with rfl | rfl | rfl | rfl | rfl | rfl
  · exact ⟨8, _, (RX9, TX9, 1), h1, rfl, rfl⟩
  · exact ⟨9, _, (RX10, TX10, 1), h1, rfl, rfl⟩
  · exact ⟨10, _, (RX11, TX11, 1), h1, rfl, rfl⟩
  · exact ⟨11, _, (RX12, TX12, 1), h1, rfl, rfl⟩
  · exact ⟨12, _, (RX13, TX13, 1), h1, rfl, rfl⟩
  · exact ⟨13, _, (RX14, TX14, 1), h1, rfl, rfl⟩
theorem b_same {K : JC} {cc : ByteArray} {nL : Nat} {own ref : String} {hh : List (Nat × Nat × Nat × Nat)} (hK : Jok Γ A K cc nL own hh) (hsame : ref = RX9 ∨ Cond.sameField ref RX9 "number" "I" ∈ lw_all) : ∀ x, (ks K).fieldFound? RX9 "number" "I" = some x → (ks K).fieldFound? ref "number" "I" = some x := fun x h => by
  rcases hsame with rfl | hs
  · exact h
  · exact u_same (hK.ts _ hs) x h
theorem b_num {K : JC} {cc : ByteArray} {nL : Nat} {own ref : String} {hh : List (Nat × Nat × Nat × Nat)} {pc idx : Nat} {ls : List (Option Value)} {st : List Value} {cs ss : Nat} (hK : Jok Γ A K cc nL own hh) (hb : BtA P a k n) (hlink : Cond.fieldLink own idx ref "number" "I" ∈ lw_all) (hsame : ref = RX9 ∨ Cond.sameField ref RX9 "number" "I" ∈ lw_all) (hd : decode cc pc = .ok (.getfield idx, 3)) (kk : J Γ A K (pc + 3) ls (.int n :: st) P cs ss) : J Γ A K pc ls (.ref a :: st) P cs ss := by
  have h1 := hb.2
  rcases k6 hb.1 with rfl | rfl | rfl | rfl | rfl | rfl
  · exact j_get hK (ci := 8) (T := TX9) (k := 0) rfl in_X9 (by decide) hlink (b_same hK hsame) hd (fun h hP => ⟨_, h1 h hP, rfl⟩) kk
  · exact j_get hK (ci := 9) (T := TX10) (k := 0) rfl in_X10 (by decide) hlink (b_same hK hsame) hd (fun h hP => ⟨_, h1 h hP, rfl⟩) kk
  · exact j_get hK (ci := 10) (T := TX11) (k := 0) rfl in_X11 (by decide) hlink (b_same hK hsame) hd (fun h hP => ⟨_, h1 h hP, rfl⟩) kk
  · exact j_get hK (ci := 11) (T := TX12) (k := 0) rfl in_X12 (by decide) hlink (b_same hK hsame) hd (fun h hP => ⟨_, h1 h hP, rfl⟩) kk
  · exact j_get hK (ci := 12) (T := TX13) (k := 0) rfl in_X13 (by decide) hlink (b_same hK hsame) hd (fun h hP => ⟨_, h1 h hP, rfl⟩) kk
  · exact j_get hK (ci := 13) (T := TX14) (k := 0) rfl in_X14 (by decide) hlink (b_same hK hsame) hd (fun h hP => ⟨_, h1 h hP, rfl⟩) kk
theorem b_pnum {P' : PH → Prop} {K : JC} {cc : ByteArray} {nL : Nat} {own ref : String} {hh : List (Nat × Nat × Nat × Nat)} {pc idx : Nat} {ls : List (Option Value)} {st : List Value} {cs ss : Nat} {v : Int32} (hK : Jok Γ A K cc nL own hh) (hb : BtA P a k n) (hlink : Cond.fieldLink own idx ref "number" "I" ∈ lw_all) (hsame : ref = RX9 ∨ Cond.sameField ref RX9 "number" "I" ∈ lw_all) (hd : decode cc pc = .ok (.putfield idx, 3)) (hp : ∀ h, P h → P' (pu h a (.inr (8 + k, [.int v])))) (kk : J Γ A K (pc + 3) ls st P' cs ss) : J Γ A K pc ls (.int v :: .ref a :: st) P cs ss := by
  have h1 := hb.2
  rcases k6 hb.1 with rfl | rfl | rfl | rfl | rfl | rfl
  · exact j_put hK (ci := 8) (T := TX9) (k := 0) rfl in_X9 tyX9_ok nmX9 (by decide) hlink (b_same hK hsame) rfl rfl rfl hd (fun h hP => ⟨_, h1 h hP, (by decide : 0 < 1), hp h hP⟩) kk
  · exact j_put hK (ci := 9) (T := TX10) (k := 0) rfl in_X10 tyX10_ok nmX10 (by decide) hlink (b_same hK hsame) rfl rfl rfl hd (fun h hP => ⟨_, h1 h hP, (by decide : 0 < 1), hp h hP⟩) kk
  · exact j_put hK (ci := 10) (T := TX11) (k := 0) rfl in_X11 tyX11_ok nmX11 (by decide) hlink (b_same hK hsame) rfl rfl rfl hd (fun h hP => ⟨_, h1 h hP, (by decide : 0 < 1), hp h hP⟩) kk
  · exact j_put hK (ci := 11) (T := TX12) (k := 0) rfl in_X12 tyX12_ok nmX12 (by decide) hlink (b_same hK hsame) rfl rfl rfl hd (fun h hP => ⟨_, h1 h hP, (by decide : 0 < 1), hp h hP⟩) kk
  · exact j_put hK (ci := 12) (T := TX13) (k := 0) rfl in_X13 tyX13_ok nmX13 (by decide) hlink (b_same hK hsame) rfl rfl rfl hd (fun h hP => ⟨_, h1 h hP, (by decide : 0 < 1), hp h hP⟩) kk
  · exact j_put hK (ci := 13) (T := TX14) (k := 0) rfl in_X14 tyX14_ok nmX14 (by decide) hlink (b_same hK hsame) rfl rfl rfl hd (fun h hP => ⟨_, h1 h hP, (by decide : 0 < 1), hp h hP⟩) kk
def kindB (k : Nat) : Int32 := match k with
  | 1 => 0 + 1 | 2 => 0 + 2 | 3 => 0 + 1 + 2 | 4 => 0 + 2 + 2 | 5 => 0 + 5 | _ => 0
def rowB (k : Nat) (n w : Int32) : Int32 := match k with
  | 1 => 2 + w / 2 - 1 | 2 => 2 + w / 2 + w | 3 => 2 + w / 2 - 1 + n | 4 => 2 + w / 2 + w | 5 => 2 * (2 + w / 2) | _ => 2 + w / 2
def hearB (k : Nat) (n w : Int32) : Int32 := match k with
  | 1 => 12 - w + n | 2 => 12 - w - 3 | 3 => 12 - w + n | 4 => (12 - w - 3) / 2 | 5 => (if n % 2 = 1 then 0 else 12 - w) | _ => 12 - w
def oweB (k : Nat) (n m q : Int32) : Int32 := match k with
  | 2 => (m + 14) / 15 * q / 2 | 3 => 0 | 4 => (m + 14) / 15 * q / 2 + 2 | 5 => (if 0 < (m + 14) / 15 * q then (m + 14) / 15 * q + n else 0) | _ => (m + 14) / 15 * q
theorem c_BX9_kind : Ct Γ A yX9_kind wX9_kind 1 0 0 [.ref a] P (RI fun r h => r = 0 ∧ P h) := by
  refine Ct.of (cc := cX9_kind) (nL := 1) (ret := (some .int)) (ls := [some (.ref a)]) rfl rfl rfl (nle rfl) ?_
  intro K hK hQ
  refine j_iconst (pc := 0) (v := 0) hK dX9_kind_0 (by decide) ?_
  exact j_iret (pc := 1) hK hQ (nle rfl) (nle rfl) dX9_kind_1 (fun h w => ⟨_, rfl, rfl, w⟩)
theorem c_BX9_rows (w : Int32) : Ct Γ A yX9_rows wX9_rows 1 0 0 [.ref a, .int w] P (RI fun r h => r = 2 + w / 2 ∧ P h) := by
  refine Ct.of (cc := cX9_rows) (nL := 2) (ret := (some .int)) (ls := [some (.ref a), some (.int w)]) rfl rfl rfl (nle rfl) ?_
  intro K hK hQ
  refine j_iconst (pc := 0) (v := 2) hK dX9_rows_0 (by decide) ?_
  refine j_iload_n (pc := 1) hK dX9_rows_1 rfl ?_
  refine j_iconst (pc := 2) (v := 2) hK dX9_rows_2 (by decide) ?_
  refine j_idiv (pc := 3) hK dX9_rows_3 (by decide) ?_
  refine j_iadd (pc := 4) hK dX9_rows_4 ?_
  exact j_iret (pc := 5) hK hQ (nle rfl) (nle rfl) dX9_rows_5 (fun h w => ⟨_, rfl, rfl, w⟩)
theorem c_BX9_hears (w : Int32) : Ct Γ A yX9_hears wX9_hears 1 0 0 [.ref a, .int w] P (RI fun r h => r = 12 - w ∧ P h) := by
  refine Ct.of (cc := cX9_hears) (nL := 2) (ret := (some .int)) (ls := [some (.ref a), some (.int w)]) rfl rfl rfl (nle rfl) ?_
  intro K hK hQ
  refine j_bipush (pc := 0) (v := 12) hK dX9_hears_0 (by decide) ?_
  refine j_iload_n (pc := 2) hK dX9_hears_2 rfl ?_
  refine j_isub (pc := 3) hK dX9_hears_3 ?_
  exact j_iret (pc := 4) hK hQ (nle rfl) (nle rfl) dX9_hears_4 (fun h w => ⟨_, rfl, rfl, w⟩)
theorem c_BX9_owes (m q : Int32) : Ct Γ A yX9_owes wX9_owes 1 0 0 [.ref a, .int m, .int q] P (RI fun r h => r = (m + 14) / 15 * q ∧ P h) := by
  refine Ct.of (cc := cX9_owes) (nL := 3) (ret := (some .int)) (ls := [some (.ref a), some (.int m), some (.int q)]) rfl rfl rfl (nle rfl) ?_
  intro K hK hQ
  refine j_iload_n (pc := 0) hK dX9_owes_0 rfl ?_
  refine j_bipush (pc := 1) (v := 14) hK dX9_owes_1 (by decide) ?_
  refine j_iadd (pc := 3) hK dX9_owes_3 ?_
  refine j_bipush (pc := 4) (v := 15) hK dX9_owes_4 (by decide) ?_
  refine j_idiv (pc := 6) hK dX9_owes_6 (by decide) ?_
  refine j_iload_n (pc := 7) hK dX9_owes_7 rfl ?_
  refine j_imul (pc := 8) hK dX9_owes_8 ?_
  exact j_iret (pc := 9) hK hQ (nle rfl) (nle rfl) dX9_owes_9 (fun h w => ⟨_, rfl, rfl, w⟩)
theorem c_BX10_kind (hb : BtA P a k n) : Ct Γ A yX10_kind wX10_kind 2 0 0 [.ref a] P (RI fun r h => r = 0 + 1 ∧ P h) := by
  refine Ct.of (cc := cX10_kind) (nL := 1) (ret := (some .int)) (ls := [some (.ref a)]) rfl rfl rfl (nle rfl) ?_
  intro K hK hQ
  refine j_aload_n (pc := 0) hK dX10_kind_0 rfl ?_
  refine j_callP (pc := 1) hK hQ (c_BX9_kind) calP_X9_kind hb.isC q224 q210 q138 (by decide) dX10_kind_1 rfl rfl (nle rfl) (nle rfl) (nle rfl) (nle rfl) (kr_i fun r1 => ?_) kx_i
  refine J.pre fun e1 => ?_
  subst e1
  refine j_iconst (pc := 4) (v := 1) hK dX10_kind_4 (by decide) ?_
  refine j_iadd (pc := 5) hK dX10_kind_5 ?_
  exact j_iret (pc := 6) hK hQ (nle rfl) (nle rfl) dX10_kind_6 (fun h w => ⟨_, rfl, rfl, w⟩)
theorem c_BX10_rows (hb : BtA P a k n) (w : Int32) : Ct Γ A yX10_rows wX10_rows 2 0 0 [.ref a, .int w] P (RI fun r h => r = 2 + w / 2 - 1 ∧ P h) := by
  refine Ct.of (cc := cX10_rows) (nL := 2) (ret := (some .int)) (ls := [some (.ref a), some (.int w)]) rfl rfl rfl (nle rfl) ?_
  intro K hK hQ
  refine j_aload_n (pc := 0) hK dX10_rows_0 rfl ?_
  refine j_iload_n (pc := 1) hK dX10_rows_1 rfl ?_
  refine j_callP (pc := 2) hK hQ (c_BX9_rows w) calP_X9_rows hb.isC q256 q245 q138 (by decide) dX10_rows_2 rfl rfl (nle rfl) (nle rfl) (nle rfl) (nle rfl) (kr_i fun r2 => ?_) kx_i
  refine J.pre fun e2 => ?_
  subst e2
  refine j_iconst (pc := 5) (v := 1) hK dX10_rows_5 (by decide) ?_
  refine j_isub (pc := 6) hK dX10_rows_6 ?_
  exact j_iret (pc := 7) hK hQ (nle rfl) (nle rfl) dX10_rows_7 (fun h w => ⟨_, rfl, rfl, w⟩)
theorem c_BX10_hears (hb : BtA P a k n) (w : Int32) : Ct Γ A yX10_hears wX10_hears 2 0 0 [.ref a, .int w] P (RI fun r h => r = 12 - w + n ∧ P h) := by
  refine Ct.of (cc := cX10_hears) (nL := 2) (ret := (some .int)) (ls := [some (.ref a), some (.int w)]) rfl rfl rfl (nle rfl) ?_
  intro K hK hQ
  refine j_aload_n (pc := 0) hK dX10_hears_0 rfl ?_
  refine j_iload_n (pc := 1) hK dX10_hears_1 rfl ?_
  refine j_callP (pc := 2) hK hQ (c_BX9_hears w) calP_X9_hears hb.isC q291 q280 q138 (by decide) dX10_hears_2 rfl rfl (nle rfl) (nle rfl) (nle rfl) (nle rfl) (kr_i fun r2 => ?_) kx_i
  refine J.pre fun e2 => ?_
  subst e2
  refine j_aload_n (pc := 5) hK dX10_hears_5 rfl ?_
  refine b_num (pc := 6) hK hb q133 (Or.inr q134) dX10_hears_6 ?_
  refine j_iadd (pc := 9) hK dX10_hears_9 ?_
  exact j_iret (pc := 10) hK hQ (nle rfl) (nle rfl) dX10_hears_10 (fun h w => ⟨_, rfl, rfl, w⟩)
theorem c_BX11_kind (hb : BtA P a k n) : Ct Γ A yX11_kind wX11_kind 2 0 0 [.ref a] P (RI fun r h => r = 0 + 2 ∧ P h) := by
  refine Ct.of (cc := cX11_kind) (nL := 1) (ret := (some .int)) (ls := [some (.ref a)]) rfl rfl rfl (nle rfl) ?_
  intro K hK hQ
  refine j_aload_n (pc := 0) hK dX11_kind_0 rfl ?_
  refine j_callP (pc := 1) hK hQ (c_BX9_kind) calP_X9_kind hb.isC q217 q210 q146 (by decide) dX11_kind_1 rfl rfl (nle rfl) (nle rfl) (nle rfl) (nle rfl) (kr_i fun r1 => ?_) kx_i
  refine J.pre fun e1 => ?_
  subst e1
  refine j_iconst (pc := 4) (v := 2) hK dX11_kind_4 (by decide) ?_
  refine j_iadd (pc := 5) hK dX11_kind_5 ?_
  exact j_iret (pc := 6) hK hQ (nle rfl) (nle rfl) dX11_kind_6 (fun h w => ⟨_, rfl, rfl, w⟩)
theorem c_BX11_rows (hb : BtA P a k n) (w : Int32) : Ct Γ A yX11_rows wX11_rows 2 0 0 [.ref a, .int w] P (RI fun r h => r = 2 + w / 2 + w ∧ P h) := by
  refine Ct.of (cc := cX11_rows) (nL := 2) (ret := (some .int)) (ls := [some (.ref a), some (.int w)]) rfl rfl rfl (nle rfl) ?_
  intro K hK hQ
  refine j_aload_n (pc := 0) hK dX11_rows_0 rfl ?_
  refine j_iload_n (pc := 1) hK dX11_rows_1 rfl ?_
  refine j_callP (pc := 2) hK hQ (c_BX9_rows w) calP_X9_rows hb.isC q249 q245 q146 (by decide) dX11_rows_2 rfl rfl (nle rfl) (nle rfl) (nle rfl) (nle rfl) (kr_i fun r2 => ?_) kx_i
  refine J.pre fun e2 => ?_
  subst e2
  refine j_iload_n (pc := 5) hK dX11_rows_5 rfl ?_
  refine j_iadd (pc := 6) hK dX11_rows_6 ?_
  exact j_iret (pc := 7) hK hQ (nle rfl) (nle rfl) dX11_rows_7 (fun h w => ⟨_, rfl, rfl, w⟩)
theorem c_BX11_hears (hb : BtA P a k n) (w : Int32) : Ct Γ A yX11_hears wX11_hears 2 0 0 [.ref a, .int w] P (RI fun r h => r = 12 - w - 3 ∧ P h) := by
  refine Ct.of (cc := cX11_hears) (nL := 2) (ret := (some .int)) (ls := [some (.ref a), some (.int w)]) rfl rfl rfl (nle rfl) ?_
  intro K hK hQ
  refine j_aload_n (pc := 0) hK dX11_hears_0 rfl ?_
  refine j_iload_n (pc := 1) hK dX11_hears_1 rfl ?_
  refine j_callP (pc := 2) hK hQ (c_BX9_hears w) calP_X9_hears hb.isC q287 q280 q146 (by decide) dX11_hears_2 rfl rfl (nle rfl) (nle rfl) (nle rfl) (nle rfl) (kr_i fun r2 => ?_) kx_i
  refine J.pre fun e2 => ?_
  subst e2
  refine j_iconst (pc := 5) (v := 3) hK dX11_hears_5 (by decide) ?_
  refine j_isub (pc := 6) hK dX11_hears_6 ?_
  exact j_iret (pc := 7) hK hQ (nle rfl) (nle rfl) dX11_hears_7 (fun h w => ⟨_, rfl, rfl, w⟩)
theorem c_BX11_owes (hb : BtA P a k n) (m q : Int32) : Ct Γ A yX11_owes wX11_owes 2 0 0 [.ref a, .int m, .int q] P (RI fun r h => r = (m + 14) / 15 * q / 2 ∧ P h) := by
  refine Ct.of (cc := cX11_owes) (nL := 3) (ret := (some .int)) (ls := [some (.ref a), some (.int m), some (.int q)]) rfl rfl rfl (nle rfl) ?_
  intro K hK hQ
  refine j_aload_n (pc := 0) hK dX11_owes_0 rfl ?_
  refine j_iload_n (pc := 1) hK dX11_owes_1 rfl ?_
  refine j_iload_n (pc := 2) hK dX11_owes_2 rfl ?_
  refine j_callP (pc := 3) hK hQ (c_BX9_owes m q) calP_X9_owes hb.isC q368 q361 q146 (by decide) dX11_owes_3 rfl rfl (nle rfl) (nle rfl) (nle rfl) (nle rfl) (kr_i fun r3 => ?_) kx_i
  refine J.pre fun e3 => ?_
  subst e3
  refine j_iconst (pc := 6) (v := 2) hK dX11_owes_6 (by decide) ?_
  refine j_idiv (pc := 7) hK dX11_owes_7 (by decide) ?_
  exact j_iret (pc := 8) hK hQ (nle rfl) (nle rfl) dX11_owes_8 (fun h w => ⟨_, rfl, rfl, w⟩)
theorem c_BX12_kind (hb : BtA P a k n) : Ct Γ A yX12_kind wX12_kind 3 0 0 [.ref a] P (RI fun r h => r = 0 + 1 + 2 ∧ P h) := by
  refine Ct.of (cc := cX12_kind) (nL := 1) (ret := (some .int)) (ls := [some (.ref a)]) rfl rfl rfl (nle rfl) ?_
  intro K hK hQ
  refine j_aload_n (pc := 0) hK dX12_kind_0 rfl ?_
  refine j_callP (pc := 1) hK hQ (c_BX10_kind hb) calP_X10_kind hb.isC q221 q1546 q154 (by decide) dX12_kind_1 rfl rfl (nle rfl) (nle rfl) (nle rfl) (nle rfl) (kr_i fun r1 => ?_) kx_i
  refine J.pre fun e1 => ?_
  subst e1
  refine j_iconst (pc := 4) (v := 2) hK dX12_kind_4 (by decide) ?_
  refine j_iadd (pc := 5) hK dX12_kind_5 ?_
  exact j_iret (pc := 6) hK hQ (nle rfl) (nle rfl) dX12_kind_6 (fun h w => ⟨_, rfl, rfl, w⟩)
theorem c_BX12_rows (hb : BtA P a k n) (w : Int32) : Ct Γ A yX12_rows wX12_rows 3 0 0 [.ref a, .int w] P (RI fun r h => r = 2 + w / 2 - 1 + n ∧ P h) := by
  refine Ct.of (cc := cX12_rows) (nL := 2) (ret := (some .int)) (ls := [some (.ref a), some (.int w)]) rfl rfl rfl (nle rfl) ?_
  intro K hK hQ
  refine j_aload_n (pc := 0) hK dX12_rows_0 rfl ?_
  refine j_iload_n (pc := 1) hK dX12_rows_1 rfl ?_
  refine j_callP (pc := 2) hK hQ (c_BX10_rows hb w) calP_X10_rows hb.isC q253 q1547 q154 (by decide) dX12_rows_2 rfl rfl (nle rfl) (nle rfl) (nle rfl) (nle rfl) (kr_i fun r2 => ?_) kx_i
  refine J.pre fun e2 => ?_
  subst e2
  refine j_aload_n (pc := 5) hK dX12_rows_5 rfl ?_
  refine b_num (pc := 6) hK hb q129 (Or.inr q130) dX12_rows_6 ?_
  refine j_iadd (pc := 9) hK dX12_rows_9 ?_
  exact j_iret (pc := 10) hK hQ (nle rfl) (nle rfl) dX12_rows_10 (fun h w => ⟨_, rfl, rfl, w⟩)
theorem c_BX12_owes (m q : Int32) : Ct Γ A yX12_owes wX12_owes 1 0 0 [.ref a, .int m, .int q] P (RI fun r h => r = 0 ∧ P h) := by
  refine Ct.of (cc := cX12_owes) (nL := 3) (ret := (some .int)) (ls := [some (.ref a), some (.int m), some (.int q)]) rfl rfl rfl (nle rfl) ?_
  intro K hK hQ
  refine j_iconst (pc := 0) (v := 0) hK dX12_owes_0 (by decide) ?_
  exact j_iret (pc := 1) hK hQ (nle rfl) (nle rfl) dX12_owes_1 (fun h w => ⟨_, rfl, rfl, w⟩)
theorem c_BX13_kind (hb : BtA P a k n) : Ct Γ A yX13_kind wX13_kind 3 0 0 [.ref a] P (RI fun r h => r = 0 + 2 + 2 ∧ P h) := by
  refine Ct.of (cc := cX13_kind) (nL := 1) (ret := (some .int)) (ls := [some (.ref a)]) rfl rfl rfl (nle rfl) ?_
  intro K hK hQ
  refine j_aload_n (pc := 0) hK dX13_kind_0 rfl ?_
  refine j_callP (pc := 1) hK hQ (c_BX11_kind hb) calP_X11_kind hb.isC q214 q1545 q162 (by decide) dX13_kind_1 rfl rfl (nle rfl) (nle rfl) (nle rfl) (nle rfl) (kr_i fun r1 => ?_) kx_i
  refine J.pre fun e1 => ?_
  subst e1
  refine j_iconst (pc := 4) (v := 2) hK dX13_kind_4 (by decide) ?_
  refine j_iadd (pc := 5) hK dX13_kind_5 ?_
  exact j_iret (pc := 6) hK hQ (nle rfl) (nle rfl) dX13_kind_6 (fun h w => ⟨_, rfl, rfl, w⟩)
theorem c_BX13_hears (hb : BtA P a k n) (w : Int32) : Ct Γ A yX13_hears wX13_hears 3 0 0 [.ref a, .int w] P (RI fun r h => r = (12 - w - 3) / 2 ∧ P h) := by
  refine Ct.of (cc := cX13_hears) (nL := 2) (ret := (some .int)) (ls := [some (.ref a), some (.int w)]) rfl rfl rfl (nle rfl) ?_
  intro K hK hQ
  refine j_aload_n (pc := 0) hK dX13_hears_0 rfl ?_
  refine j_iload_n (pc := 1) hK dX13_hears_1 rfl ?_
  refine j_callP (pc := 2) hK hQ (c_BX11_hears hb w) calP_X11_hears hb.isC q284 q1548 q162 (by decide) dX13_hears_2 rfl rfl (nle rfl) (nle rfl) (nle rfl) (nle rfl) (kr_i fun r2 => ?_) kx_i
  refine J.pre fun e2 => ?_
  subst e2
  refine j_iconst (pc := 5) (v := 2) hK dX13_hears_5 (by decide) ?_
  refine j_idiv (pc := 6) hK dX13_hears_6 (by decide) ?_
  exact j_iret (pc := 7) hK hQ (nle rfl) (nle rfl) dX13_hears_7 (fun h w => ⟨_, rfl, rfl, w⟩)
theorem c_BX13_owes (hb : BtA P a k n) (m q : Int32) : Ct Γ A yX13_owes wX13_owes 3 0 0 [.ref a, .int m, .int q] P (RI fun r h => r = (m + 14) / 15 * q / 2 + 2 ∧ P h) := by
  refine Ct.of (cc := cX13_owes) (nL := 3) (ret := (some .int)) (ls := [some (.ref a), some (.int m), some (.int q)]) rfl rfl rfl (nle rfl) ?_
  intro K hK hQ
  refine j_aload_n (pc := 0) hK dX13_owes_0 rfl ?_
  refine j_iload_n (pc := 1) hK dX13_owes_1 rfl ?_
  refine j_iload_n (pc := 2) hK dX13_owes_2 rfl ?_
  refine j_callP (pc := 3) hK hQ (c_BX11_owes hb m q) calP_X11_owes hb.isC q365 q1549 q162 (by decide) dX13_owes_3 rfl rfl (nle rfl) (nle rfl) (nle rfl) (nle rfl) (kr_i fun r3 => ?_) kx_i
  refine J.pre fun e3 => ?_
  subst e3
  refine j_iconst (pc := 6) (v := 2) hK dX13_owes_6 (by decide) ?_
  refine j_iadd (pc := 7) hK dX13_owes_7 ?_
  exact j_iret (pc := 8) hK hQ (nle rfl) (nle rfl) dX13_owes_8 (fun h w => ⟨_, rfl, rfl, w⟩)
theorem c_BX14_kind (hb : BtA P a k n) : Ct Γ A yX14_kind wX14_kind 2 0 0 [.ref a] P (RI fun r h => r = 0 + 5 ∧ P h) := by
  refine Ct.of (cc := cX14_kind) (nL := 1) (ret := (some .int)) (ls := [some (.ref a)]) rfl rfl rfl (nle rfl) ?_
  intro K hK hQ
  refine j_aload_n (pc := 0) hK dX14_kind_0 rfl ?_
  refine j_callP (pc := 1) hK hQ (c_BX9_kind) calP_X9_kind hb.isC q228 q210 q170 (by decide) dX14_kind_1 rfl rfl (nle rfl) (nle rfl) (nle rfl) (nle rfl) (kr_i fun r1 => ?_) kx_i
  refine J.pre fun e1 => ?_
  subst e1
  refine j_iconst (pc := 4) (v := 5) hK dX14_kind_4 (by decide) ?_
  refine j_iadd (pc := 5) hK dX14_kind_5 ?_
  exact j_iret (pc := 6) hK hQ (nle rfl) (nle rfl) dX14_kind_6 (fun h w => ⟨_, rfl, rfl, w⟩)
theorem c_BX14_rows (hb : BtA P a k n) (w : Int32) : Ct Γ A yX14_rows wX14_rows 2 0 0 [.ref a, .int w] P (RI fun r h => r = 2 * (2 + w / 2) ∧ P h) := by
  refine Ct.of (cc := cX14_rows) (nL := 2) (ret := (some .int)) (ls := [some (.ref a), some (.int w)]) rfl rfl rfl (nle rfl) ?_
  intro K hK hQ
  refine j_iconst (pc := 0) (v := 2) hK dX14_rows_0 (by decide) ?_
  refine j_aload_n (pc := 1) hK dX14_rows_1 rfl ?_
  refine j_iload_n (pc := 2) hK dX14_rows_2 rfl ?_
  refine j_callP (pc := 3) hK hQ (c_BX9_rows w) calP_X9_rows hb.isC q260 q245 q170 (by decide) dX14_rows_3 rfl rfl (nle rfl) (nle rfl) (nle rfl) (nle rfl) (kr_i fun r3 => ?_) kx_i
  refine J.pre fun e3 => ?_
  subst e3
  refine j_imul (pc := 6) hK dX14_rows_6 ?_
  exact j_iret (pc := 7) hK hQ (nle rfl) (nle rfl) dX14_rows_7 (fun h w => ⟨_, rfl, rfl, w⟩)
theorem c_BX14_hears (hb : BtA P a k n) (w : Int32) : Ct Γ A yX14_hears wX14_hears 2 0 0 [.ref a, .int w] P (RI fun r h => r = (if n % 2 = 1 then 0 else 12 - w) ∧ P h) := by
  refine Ct.of (cc := cX14_hears) (nL := 2) (ret := (some .int)) (ls := [some (.ref a), some (.int w)]) rfl rfl rfl (nle rfl) ?_
  intro K hK hQ
  refine j_aload_n (pc := 0) hK dX14_hears_0 rfl ?_
  refine b_num (pc := 1) hK hb q131 (Or.inr q132) dX14_hears_1 ?_
  refine j_iconst (pc := 4) (v := 2) hK dX14_hears_4 (by decide) ?_
  refine j_irem (pc := 5) hK dX14_hears_5 (by decide) ?_
  refine j_iconst (pc := 6) (v := 1) hK dX14_hears_6 (by decide) ?_
  refine j_icmp_ne (pc := 7) (tgt := 14) hK dX14_hears_7 (by decide) (fun c7 => ?_) (fun c7 => ?_)
  · skip
    refine j_aload_n (pc := 14) hK dX14_hears_14 rfl ?_
    refine j_iload_n (pc := 15) hK dX14_hears_15 rfl ?_
    refine j_callP (pc := 16) hK hQ (c_BX9_hears w) calP_X9_hears hb.isC q295 q280 q170 (by decide) dX14_hears_16 rfl rfl (nle rfl) (nle rfl) (nle rfl) (nle rfl) (kr_i fun r16 => ?_) kx_i
    refine J.pre fun e16 => ?_
    subst e16
    exact j_iret (pc := 19) hK hQ (nle rfl) (nle rfl) dX14_hears_19 (fun h w => ⟨_, rfl, by first | rw [if_pos c7] | rw [if_neg c7], w⟩)
  · skip
    refine j_iconst (pc := 10) (v := 0) hK dX14_hears_10 (by decide) ?_
    refine j_goto (pc := 11) (tgt := 19) hK dX14_hears_11 (by decide) ?_
    exact j_iret (pc := 19) hK hQ (nle rfl) (nle rfl) dX14_hears_19 (fun h w => ⟨_, rfl, by first | rw [if_pos c7] | rw [if_neg c7], w⟩)
theorem c_BX14_owes (hb : BtA P a k n) (m q : Int32) : Ct Γ A yX14_owes wX14_owes 2 0 0 [.ref a, .int m, .int q] P (RI fun r h => r = (if 0 < (m + 14) / 15 * q then (m + 14) / 15 * q + n else 0) ∧ P h) := by
  refine Ct.of (cc := cX14_owes) (nL := 4) (ret := (some .int)) (ls := [some (.ref a), some (.int m), some (.int q), none]) rfl rfl rfl (nle rfl) ?_
  intro K hK hQ
  refine j_aload_n (pc := 0) hK dX14_owes_0 rfl ?_
  refine j_iload_n (pc := 1) hK dX14_owes_1 rfl ?_
  refine j_iload_n (pc := 2) hK dX14_owes_2 rfl ?_
  refine j_callP (pc := 3) hK hQ (c_BX9_owes m q) calP_X9_owes hb.isC q375 q361 q170 (by decide) dX14_owes_3 rfl rfl (nle rfl) (nle rfl) (nle rfl) (nle rfl) (kr_i fun r3 => ?_) kx_i
  refine J.pre fun e3 => ?_
  subst e3
  refine j_ist3 (pc := 6) hK dX14_owes_6 (by decide) rfl ?_
  refine j_iload_n (pc := 7) hK dX14_owes_7 rfl ?_
  refine j_if_le (pc := 8) (tgt := 20) hK dX14_owes_8 (by decide) (fun c8 => ?_) (fun c8 => ?_)
  · refine j_iconst (pc := 20) (v := 0) hK dX14_owes_20 (by decide) ?_
    exact j_iret (pc := 21) hK hQ (nle rfl) (nle rfl) dX14_owes_21 (fun h w => ⟨_, rfl, by first | rw [if_pos (Int32.not_le.mp c8)] | rw [if_neg (Int32.not_lt.mpr c8)], w⟩)
  · refine j_iload_n (pc := 11) hK dX14_owes_11 rfl ?_
    refine j_aload_n (pc := 12) hK dX14_owes_12 rfl ?_
    refine b_num (pc := 13) hK hb q131 (Or.inr q132) dX14_owes_13 ?_
    refine j_iadd (pc := 16) hK dX14_owes_16 ?_
    refine j_goto (pc := 17) (tgt := 21) hK dX14_owes_17 (by decide) ?_
    exact j_iret (pc := 21) hK hQ (nle rfl) (nle rfl) dX14_owes_21 (fun h w => ⟨_, rfl, by first | rw [if_pos (Int32.not_le.mp c8)] | rw [if_neg (Int32.not_lt.mpr c8)], w⟩)
theorem c_BX9_heldRows (hb : BtA P a k n) (w : Int32) : Ct Γ A yX9_heldRows wX9_heldRows 5 0 0 [.ref a, .int w] P (RI fun r h => r = maxI 1 (rowB k n w) ∧ P h) := by
  refine Ct.of (cc := cX9_heldRows) (nL := 2) (ret := (some .int)) (ls := [some (.ref a), some (.int w)]) rfl rfl rfl (nle rfl) ?_
  intro K hK hQ
  have hC := hb.isC
  rcases k6 hb.1 with rfl | rfl | rfl | rfl | rfl | rfl
  · skip
    refine j_iconst (pc := 0) (v := 1) hK dX9_heldRows_0 (by decide) ?_
    refine j_aload_n (pc := 1) hK dX9_heldRows_1 rfl ?_
    refine j_iload_n (pc := 2) hK dX9_heldRows_2 rfl ?_
    refine j_callU (pc := 3) (owner := RX9) hK hQ (c_BX9_rows w) calU_X9_X9_rows hC q242 q245 ⟨by decide, by decide⟩ (fun s hw B ts => va_Decl.of (ts _ q243) (ts _ q263)) dX9_heldRows_3 rfl rfl (nle rfl) (nle rfl) (nle rfl) (nle rfl) (kr_i fun r3 => ?_) kx_i
    refine J.pre fun e3 => ?_
    subst e3
    refine j_mmax (pc := 6) hK hQ q264 dX9_heldRows_6 (nle rfl) (nle rfl) (nle rfl) ?_
    exact j_iret (pc := 9) hK hQ (nle rfl) (nle rfl) dX9_heldRows_9 (fun h w => ⟨_, rfl, rfl, w⟩)
  · skip
    refine j_iconst (pc := 0) (v := 1) hK dX9_heldRows_0 (by decide) ?_
    refine j_aload_n (pc := 1) hK dX9_heldRows_1 rfl ?_
    refine j_iload_n (pc := 2) hK dX9_heldRows_2 rfl ?_
    refine j_callU (pc := 3) (owner := RX9) hK hQ (c_BX10_rows hb w) calU_X10_X9_rows hC q242 q245 ⟨by decide, by decide⟩ (fun s hw B ts => va_Decl.of (ts _ q243) (ts _ q263)) dX9_heldRows_3 rfl rfl (nle rfl) (nle rfl) (nle rfl) (nle rfl) (kr_i fun r3 => ?_) kx_i
    refine J.pre fun e3 => ?_
    subst e3
    refine j_mmax (pc := 6) hK hQ q264 dX9_heldRows_6 (nle rfl) (nle rfl) (nle rfl) ?_
    exact j_iret (pc := 9) hK hQ (nle rfl) (nle rfl) dX9_heldRows_9 (fun h w => ⟨_, rfl, rfl, w⟩)
  · skip
    refine j_iconst (pc := 0) (v := 1) hK dX9_heldRows_0 (by decide) ?_
    refine j_aload_n (pc := 1) hK dX9_heldRows_1 rfl ?_
    refine j_iload_n (pc := 2) hK dX9_heldRows_2 rfl ?_
    refine j_callU (pc := 3) (owner := RX9) hK hQ (c_BX11_rows hb w) calU_X11_X9_rows hC q242 q245 ⟨by decide, by decide⟩ (fun s hw B ts => va_Decl.of (ts _ q243) (ts _ q263)) dX9_heldRows_3 rfl rfl (nle rfl) (nle rfl) (nle rfl) (nle rfl) (kr_i fun r3 => ?_) kx_i
    refine J.pre fun e3 => ?_
    subst e3
    refine j_mmax (pc := 6) hK hQ q264 dX9_heldRows_6 (nle rfl) (nle rfl) (nle rfl) ?_
    exact j_iret (pc := 9) hK hQ (nle rfl) (nle rfl) dX9_heldRows_9 (fun h w => ⟨_, rfl, rfl, w⟩)
  · skip
    refine j_iconst (pc := 0) (v := 1) hK dX9_heldRows_0 (by decide) ?_
    refine j_aload_n (pc := 1) hK dX9_heldRows_1 rfl ?_
    refine j_iload_n (pc := 2) hK dX9_heldRows_2 rfl ?_
    refine j_callU (pc := 3) (owner := RX9) hK hQ (c_BX12_rows hb w) calU_X12_X9_rows hC q242 q245 ⟨by decide, by decide⟩ (fun s hw B ts => va_Decl.of (ts _ q243) (ts _ q263)) dX9_heldRows_3 rfl rfl (nle rfl) (nle rfl) (nle rfl) (nle rfl) (kr_i fun r3 => ?_) kx_i
    refine J.pre fun e3 => ?_
    subst e3
    refine j_mmax (pc := 6) hK hQ q264 dX9_heldRows_6 (nle rfl) (nle rfl) (nle rfl) ?_
    exact j_iret (pc := 9) hK hQ (nle rfl) (nle rfl) dX9_heldRows_9 (fun h w => ⟨_, rfl, rfl, w⟩)
  · skip
    refine j_iconst (pc := 0) (v := 1) hK dX9_heldRows_0 (by decide) ?_
    refine j_aload_n (pc := 1) hK dX9_heldRows_1 rfl ?_
    refine j_iload_n (pc := 2) hK dX9_heldRows_2 rfl ?_
    refine j_callU (pc := 3) (owner := RX9) hK hQ (c_BX11_rows hb w) calU_X13_X9_rows hC q242 q245 ⟨by decide, by decide⟩ (fun s hw B ts => va_Decl.of (ts _ q243) (ts _ q263)) dX9_heldRows_3 rfl rfl (nle rfl) (nle rfl) (nle rfl) (nle rfl) (kr_i fun r3 => ?_) kx_i
    refine J.pre fun e3 => ?_
    subst e3
    refine j_mmax (pc := 6) hK hQ q264 dX9_heldRows_6 (nle rfl) (nle rfl) (nle rfl) ?_
    exact j_iret (pc := 9) hK hQ (nle rfl) (nle rfl) dX9_heldRows_9 (fun h w => ⟨_, rfl, rfl, w⟩)
  · skip
    refine j_iconst (pc := 0) (v := 1) hK dX9_heldRows_0 (by decide) ?_
    refine j_aload_n (pc := 1) hK dX9_heldRows_1 rfl ?_
    refine j_iload_n (pc := 2) hK dX9_heldRows_2 rfl ?_
    refine j_callU (pc := 3) (owner := RX9) hK hQ (c_BX14_rows hb w) calU_X14_X9_rows hC q242 q245 ⟨by decide, by decide⟩ (fun s hw B ts => va_Decl.of (ts _ q243) (ts _ q263)) dX9_heldRows_3 rfl rfl (nle rfl) (nle rfl) (nle rfl) (nle rfl) (kr_i fun r3 => ?_) kx_i
    refine J.pre fun e3 => ?_
    subst e3
    refine j_mmax (pc := 6) hK hQ q264 dX9_heldRows_6 (nle rfl) (nle rfl) (nle rfl) ?_
    exact j_iret (pc := 9) hK hQ (nle rfl) (nle rfl) dX9_heldRows_9 (fun h w => ⟨_, rfl, rfl, w⟩)
theorem c_BX9_heldHears (hb : BtA P a k n) (w : Int32) : Ct Γ A yX9_heldHears wX9_heldHears 5 0 0 [.ref a, .int w] P (RI fun r h => r = maxI 0 (hearB k n w) ∧ P h) := by
  refine Ct.of (cc := cX9_heldHears) (nL := 2) (ret := (some .int)) (ls := [some (.ref a), some (.int w)]) rfl rfl rfl (nle rfl) ?_
  intro K hK hQ
  have hC := hb.isC
  rcases k6 hb.1 with rfl | rfl | rfl | rfl | rfl | rfl
  · skip
    refine j_iconst (pc := 0) (v := 0) hK dX9_heldHears_0 (by decide) ?_
    refine j_aload_n (pc := 1) hK dX9_heldHears_1 rfl ?_
    refine j_iload_n (pc := 2) hK dX9_heldHears_2 rfl ?_
    refine j_callU (pc := 3) (owner := RX9) hK hQ (c_BX9_hears w) calU_X9_X9_hears hC q277 q280 ⟨by decide, by decide⟩ (fun s hw B ts => va_Decl.of (ts _ q278) (ts _ q298)) dX9_heldHears_3 rfl rfl (nle rfl) (nle rfl) (nle rfl) (nle rfl) (kr_i fun r3 => ?_) kx_i
    refine J.pre fun e3 => ?_
    subst e3
    refine j_mmax (pc := 6) hK hQ q264 dX9_heldHears_6 (nle rfl) (nle rfl) (nle rfl) ?_
    exact j_iret (pc := 9) hK hQ (nle rfl) (nle rfl) dX9_heldHears_9 (fun h w => ⟨_, rfl, rfl, w⟩)
  · skip
    refine j_iconst (pc := 0) (v := 0) hK dX9_heldHears_0 (by decide) ?_
    refine j_aload_n (pc := 1) hK dX9_heldHears_1 rfl ?_
    refine j_iload_n (pc := 2) hK dX9_heldHears_2 rfl ?_
    refine j_callU (pc := 3) (owner := RX9) hK hQ (c_BX10_hears hb w) calU_X10_X9_hears hC q277 q280 ⟨by decide, by decide⟩ (fun s hw B ts => va_Decl.of (ts _ q278) (ts _ q298)) dX9_heldHears_3 rfl rfl (nle rfl) (nle rfl) (nle rfl) (nle rfl) (kr_i fun r3 => ?_) kx_i
    refine J.pre fun e3 => ?_
    subst e3
    refine j_mmax (pc := 6) hK hQ q264 dX9_heldHears_6 (nle rfl) (nle rfl) (nle rfl) ?_
    exact j_iret (pc := 9) hK hQ (nle rfl) (nle rfl) dX9_heldHears_9 (fun h w => ⟨_, rfl, rfl, w⟩)
  · skip
    refine j_iconst (pc := 0) (v := 0) hK dX9_heldHears_0 (by decide) ?_
    refine j_aload_n (pc := 1) hK dX9_heldHears_1 rfl ?_
    refine j_iload_n (pc := 2) hK dX9_heldHears_2 rfl ?_
    refine j_callU (pc := 3) (owner := RX9) hK hQ (c_BX11_hears hb w) calU_X11_X9_hears hC q277 q280 ⟨by decide, by decide⟩ (fun s hw B ts => va_Decl.of (ts _ q278) (ts _ q298)) dX9_heldHears_3 rfl rfl (nle rfl) (nle rfl) (nle rfl) (nle rfl) (kr_i fun r3 => ?_) kx_i
    refine J.pre fun e3 => ?_
    subst e3
    refine j_mmax (pc := 6) hK hQ q264 dX9_heldHears_6 (nle rfl) (nle rfl) (nle rfl) ?_
    exact j_iret (pc := 9) hK hQ (nle rfl) (nle rfl) dX9_heldHears_9 (fun h w => ⟨_, rfl, rfl, w⟩)
  · skip
    refine j_iconst (pc := 0) (v := 0) hK dX9_heldHears_0 (by decide) ?_
    refine j_aload_n (pc := 1) hK dX9_heldHears_1 rfl ?_
    refine j_iload_n (pc := 2) hK dX9_heldHears_2 rfl ?_
    refine j_callU (pc := 3) (owner := RX9) hK hQ (c_BX10_hears hb w) calU_X12_X9_hears hC q277 q280 ⟨by decide, by decide⟩ (fun s hw B ts => va_Decl.of (ts _ q278) (ts _ q298)) dX9_heldHears_3 rfl rfl (nle rfl) (nle rfl) (nle rfl) (nle rfl) (kr_i fun r3 => ?_) kx_i
    refine J.pre fun e3 => ?_
    subst e3
    refine j_mmax (pc := 6) hK hQ q264 dX9_heldHears_6 (nle rfl) (nle rfl) (nle rfl) ?_
    exact j_iret (pc := 9) hK hQ (nle rfl) (nle rfl) dX9_heldHears_9 (fun h w => ⟨_, rfl, rfl, w⟩)
  · skip
    refine j_iconst (pc := 0) (v := 0) hK dX9_heldHears_0 (by decide) ?_
    refine j_aload_n (pc := 1) hK dX9_heldHears_1 rfl ?_
    refine j_iload_n (pc := 2) hK dX9_heldHears_2 rfl ?_
    refine j_callU (pc := 3) (owner := RX9) hK hQ (c_BX13_hears hb w) calU_X13_X9_hears hC q277 q280 ⟨by decide, by decide⟩ (fun s hw B ts => va_Decl.of (ts _ q278) (ts _ q298)) dX9_heldHears_3 rfl rfl (nle rfl) (nle rfl) (nle rfl) (nle rfl) (kr_i fun r3 => ?_) kx_i
    refine J.pre fun e3 => ?_
    subst e3
    refine j_mmax (pc := 6) hK hQ q264 dX9_heldHears_6 (nle rfl) (nle rfl) (nle rfl) ?_
    exact j_iret (pc := 9) hK hQ (nle rfl) (nle rfl) dX9_heldHears_9 (fun h w => ⟨_, rfl, rfl, w⟩)
  · skip
    refine j_iconst (pc := 0) (v := 0) hK dX9_heldHears_0 (by decide) ?_
    refine j_aload_n (pc := 1) hK dX9_heldHears_1 rfl ?_
    refine j_iload_n (pc := 2) hK dX9_heldHears_2 rfl ?_
    refine j_callU (pc := 3) (owner := RX9) hK hQ (c_BX14_hears hb w) calU_X14_X9_hears hC q277 q280 ⟨by decide, by decide⟩ (fun s hw B ts => va_Decl.of (ts _ q278) (ts _ q298)) dX9_heldHears_3 rfl rfl (nle rfl) (nle rfl) (nle rfl) (nle rfl) (kr_i fun r3 => ?_) kx_i
    refine J.pre fun e3 => ?_
    subst e3
    refine j_mmax (pc := 6) hK hQ q264 dX9_heldHears_6 (nle rfl) (nle rfl) (nle rfl) ?_
    exact j_iret (pc := 9) hK hQ (nle rfl) (nle rfl) dX9_heldHears_9 (fun h w => ⟨_, rfl, rfl, w⟩)
theorem c_BX9_heldOwes (hb : BtA P a k n) (m q : Int32) : Ct Γ A yX9_heldOwes wX9_heldOwes 5 0 0 [.ref a, .int m, .int q] P (RI fun r h => r = maxI 0 (oweB k n m q) ∧ P h) := by
  refine Ct.of (cc := cX9_heldOwes) (nL := 3) (ret := (some .int)) (ls := [some (.ref a), some (.int m), some (.int q)]) rfl rfl rfl (nle rfl) ?_
  intro K hK hQ
  have hC := hb.isC
  rcases k6 hb.1 with rfl | rfl | rfl | rfl | rfl | rfl
  · skip
    refine j_iconst (pc := 0) (v := 0) hK dX9_heldOwes_0 (by decide) ?_
    refine j_aload_n (pc := 1) hK dX9_heldOwes_1 rfl ?_
    refine j_iload_n (pc := 2) hK dX9_heldOwes_2 rfl ?_
    refine j_iload_n (pc := 3) hK dX9_heldOwes_3 rfl ?_
    refine j_callU (pc := 4) (owner := RX9) hK hQ (c_BX9_owes m q) calU_X9_X9_owes hC q358 q361 ⟨by decide, by decide⟩ (fun s hw B ts => va_Decl.of (ts _ q359) (ts _ q378)) dX9_heldOwes_4 rfl rfl (nle rfl) (nle rfl) (nle rfl) (nle rfl) (kr_i fun r4 => ?_) kx_i
    refine J.pre fun e4 => ?_
    subst e4
    refine j_mmax (pc := 7) hK hQ q264 dX9_heldOwes_7 (nle rfl) (nle rfl) (nle rfl) ?_
    exact j_iret (pc := 10) hK hQ (nle rfl) (nle rfl) dX9_heldOwes_10 (fun h w => ⟨_, rfl, rfl, w⟩)
  · skip
    refine j_iconst (pc := 0) (v := 0) hK dX9_heldOwes_0 (by decide) ?_
    refine j_aload_n (pc := 1) hK dX9_heldOwes_1 rfl ?_
    refine j_iload_n (pc := 2) hK dX9_heldOwes_2 rfl ?_
    refine j_iload_n (pc := 3) hK dX9_heldOwes_3 rfl ?_
    refine j_callU (pc := 4) (owner := RX9) hK hQ (c_BX9_owes m q) calU_X10_X9_owes hC q358 q361 ⟨by decide, by decide⟩ (fun s hw B ts => va_Decl.of (ts _ q359) (ts _ q378)) dX9_heldOwes_4 rfl rfl (nle rfl) (nle rfl) (nle rfl) (nle rfl) (kr_i fun r4 => ?_) kx_i
    refine J.pre fun e4 => ?_
    subst e4
    refine j_mmax (pc := 7) hK hQ q264 dX9_heldOwes_7 (nle rfl) (nle rfl) (nle rfl) ?_
    exact j_iret (pc := 10) hK hQ (nle rfl) (nle rfl) dX9_heldOwes_10 (fun h w => ⟨_, rfl, rfl, w⟩)
  · skip
    refine j_iconst (pc := 0) (v := 0) hK dX9_heldOwes_0 (by decide) ?_
    refine j_aload_n (pc := 1) hK dX9_heldOwes_1 rfl ?_
    refine j_iload_n (pc := 2) hK dX9_heldOwes_2 rfl ?_
    refine j_iload_n (pc := 3) hK dX9_heldOwes_3 rfl ?_
    refine j_callU (pc := 4) (owner := RX9) hK hQ (c_BX11_owes hb m q) calU_X11_X9_owes hC q358 q361 ⟨by decide, by decide⟩ (fun s hw B ts => va_Decl.of (ts _ q359) (ts _ q378)) dX9_heldOwes_4 rfl rfl (nle rfl) (nle rfl) (nle rfl) (nle rfl) (kr_i fun r4 => ?_) kx_i
    refine J.pre fun e4 => ?_
    subst e4
    refine j_mmax (pc := 7) hK hQ q264 dX9_heldOwes_7 (nle rfl) (nle rfl) (nle rfl) ?_
    exact j_iret (pc := 10) hK hQ (nle rfl) (nle rfl) dX9_heldOwes_10 (fun h w => ⟨_, rfl, rfl, w⟩)
  · skip
    refine j_iconst (pc := 0) (v := 0) hK dX9_heldOwes_0 (by decide) ?_
    refine j_aload_n (pc := 1) hK dX9_heldOwes_1 rfl ?_
    refine j_iload_n (pc := 2) hK dX9_heldOwes_2 rfl ?_
    refine j_iload_n (pc := 3) hK dX9_heldOwes_3 rfl ?_
    refine j_callU (pc := 4) (owner := RX9) hK hQ (c_BX12_owes m q) calU_X12_X9_owes hC q358 q361 ⟨by decide, by decide⟩ (fun s hw B ts => va_Decl.of (ts _ q359) (ts _ q378)) dX9_heldOwes_4 rfl rfl (nle rfl) (nle rfl) (nle rfl) (nle rfl) (kr_i fun r4 => ?_) kx_i
    refine J.pre fun e4 => ?_
    subst e4
    refine j_mmax (pc := 7) hK hQ q264 dX9_heldOwes_7 (nle rfl) (nle rfl) (nle rfl) ?_
    exact j_iret (pc := 10) hK hQ (nle rfl) (nle rfl) dX9_heldOwes_10 (fun h w => ⟨_, rfl, rfl, w⟩)
  · skip
    refine j_iconst (pc := 0) (v := 0) hK dX9_heldOwes_0 (by decide) ?_
    refine j_aload_n (pc := 1) hK dX9_heldOwes_1 rfl ?_
    refine j_iload_n (pc := 2) hK dX9_heldOwes_2 rfl ?_
    refine j_iload_n (pc := 3) hK dX9_heldOwes_3 rfl ?_
    refine j_callU (pc := 4) (owner := RX9) hK hQ (c_BX13_owes hb m q) calU_X13_X9_owes hC q358 q361 ⟨by decide, by decide⟩ (fun s hw B ts => va_Decl.of (ts _ q359) (ts _ q378)) dX9_heldOwes_4 rfl rfl (nle rfl) (nle rfl) (nle rfl) (nle rfl) (kr_i fun r4 => ?_) kx_i
    refine J.pre fun e4 => ?_
    subst e4
    refine j_mmax (pc := 7) hK hQ q264 dX9_heldOwes_7 (nle rfl) (nle rfl) (nle rfl) ?_
    exact j_iret (pc := 10) hK hQ (nle rfl) (nle rfl) dX9_heldOwes_10 (fun h w => ⟨_, rfl, rfl, w⟩)
  · skip
    refine j_iconst (pc := 0) (v := 0) hK dX9_heldOwes_0 (by decide) ?_
    refine j_aload_n (pc := 1) hK dX9_heldOwes_1 rfl ?_
    refine j_iload_n (pc := 2) hK dX9_heldOwes_2 rfl ?_
    refine j_iload_n (pc := 3) hK dX9_heldOwes_3 rfl ?_
    refine j_callU (pc := 4) (owner := RX9) hK hQ (c_BX14_owes hb m q) calU_X14_X9_owes hC q358 q361 ⟨by decide, by decide⟩ (fun s hw B ts => va_Decl.of (ts _ q359) (ts _ q378)) dX9_heldOwes_4 rfl rfl (nle rfl) (nle rfl) (nle rfl) (nle rfl) (kr_i fun r4 => ?_) kx_i
    refine J.pre fun e4 => ?_
    subst e4
    refine j_mmax (pc := 7) hK hQ q264 dX9_heldOwes_7 (nle rfl) (nle rfl) (nle rfl) ?_
    exact j_iret (pc := 10) hK hQ (nle rfl) (nle rfl) dX9_heldOwes_10 (fun h w => ⟨_, rfl, rfl, w⟩)
end X52
