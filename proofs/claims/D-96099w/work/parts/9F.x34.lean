/-! the class is made -/
set_option maxRecDepth 100000
section P9F
variable {Γ : Gam} {A : Nat → Prop} {a : Nat}
def nmL (l : List Nat) (k : Nat) : Nat := l.getD k 0
def lk0 (j : Int32) : Int32 := if j = 0 then 27 else if j = 1 then 0 else if j = 2 then 2 else if j = 3 then 1 else 0
def x00 (ks ns : List Nat) : XD := (fun _ => 0, fun k j => if k = 7 then lk0 j else if k = 38 then -1 else 0, 0, fun _ _ => 0, fun i => ks.getD i 0, fun i => ns.getD i 0, fl0)
abbrev nm0 : List Nat := [35, 34, 52, 51, 50, 49, 33, 32, 48, 47, 46, 45, 44, 43, 31, 29, 26, 25, 16, 15, 14, 12, 10, 7, 5, 4, 3, 2, 1, 0]
/-- the object as 'new' lays it -/
abbrev fs0 : List Value := [.null, .null, .null, .null, .null, .null, .int 0, .null, .int 0, .int 0, .null, .int 0, .null, .int 0, .null, .null, .null, .int 0, .int 0, .int 0, .int 0, .int 0, .int 0, .int 0, .int 0, .null, .null, .int 0, .int 0, .null, .int 0, .null, .null, .null, .null]
theorem xia_nm0 : ∀ k, xia k = true → k ∈ nm0 := by
  intro k h
  unfold xia at h
  split at h
  all_goals first | (exact absurd h (by decide)) | decide
theorem xcs_out {L : Nat → Nat} {ks ns : List Nat} {k : Nat} (hk : k ∉ nm0) : xcs Γ L (x00 ks ns) 0 k = none := by
  have h1 : ¬ xia k = true := fun h => hk (xia_nm0 k h)
  have ne : ∀ m, m ∈ nm0 → k ≠ m := fun m hm z => hk (by rw [z]; exact hm)
  unfold xcs
  rw [if_neg h1, if_neg (ne 35 (by decide)), if_neg (ne 0 (by decide)), if_neg (ne 10 (by decide)), if_neg (ne 12 (by decide)), if_neg (ne 14 (by decide)), if_neg (ne 15 (by decide)), if_neg (ne 31 (by decide)), if_neg (ne 34 (by decide)), if_neg (by show ¬ (36 ≤ k ∧ k < 36 + 0 ∧ k < 43); omega)]
  rw [if_neg (fun z => by have q1 := ne 49 (by decide); have q2 := ne 50 (by decide); have q3 := ne 51 (by decide); have q4 := ne 52 (by decide); omega), if_neg (fun z => z.2.2 rfl), if_neg (by omega)]
theorem XR_00 {ks ns : List Nat} : XR f00 g00 (x00 ks ns) := by
  refine ⟨fun k hk => ?_, fun i hi => ?_, ⟨Nat.zero_le _, fun b hb => ?_⟩, fun k _ b hb => ?_, fun k h0 h1 => ?_, fun h => absurd rfl h, fun s hs => ?_⟩
  · rcases xfd_in hk with rfl | rfl | rfl | rfl | rfl | rfl | rfl <;> rfl
  · show lk0 (nI i) = f00 (xl i)
    rcases (show i = 0 ∨ i = 1 ∨ i = 2 ∨ i = 3 ∨ i = 4 by omega) with rfl | rfl | rfl | rfl | rfl <;> decide
  · exact absurd hb.2 (Int32.not_lt.mpr hb.1)
  · exact absurd hb.2 (Int32.not_lt.mpr hb.1)
  · exact absurd h1 (Int32.not_lt.mpr h0)
  · have e : g00 36 (nI s) = -1 := by rcases n4 hs with rfl | rfl | rfl | rfl <;> decide
    exact ⟨by rw [e]; rfl, fun z => absurd e z⟩
theorem born_cells {L : Nat → Nat} {ks ns : List Nat} : nm0.map (fun k => (L k, xcs Γ L (x00 ks ns) 0 k)) = [(L 35, some (.inr (0, xfs L (fun _ => 0)))), (L 34, some (.inl (gA Γ 8, 4, rfA fun s => some (L (49 + s))))), (L 52, some (.inr (2, [.null]))), (L 51, some (.inr (2, [.null]))), (L 50, some (.inr (2, [.null]))), (L 49, some (.inr (2, [.null]))), (L 33, some (.inl (gA Γ 0, 4, .inl fun _ => 0))), (L 32, some (.inl (gA Γ 0, 5, .inl fun _ => 0))), (L 48, some (.inl (gA Γ 0, 7, .inl fun _ => 0))), (L 47, some (.inl (gA Γ 0, 7, .inl fun _ => 0))), (L 46, some (.inl (gA Γ 0, 7, .inl fun _ => 0))), (L 45, some (.inl (gA Γ 0, 7, .inl fun _ => 0))), (L 44, some (.inl (gA Γ 0, 7, .inl fun _ => 0))), (L 43, some (.inl (gA Γ 0, 7, .inl fun _ => 0))), (L 31, some (.inl (gA Γ 7, 6, rfA fun i => some (L (43 + i))))), (L 29, some (.inl (gA Γ 0, 7, .inl fun _ => 0))), (L 26, some (.inl (gA Γ 0, 7, .inl fun _ => 0))), (L 25, some (.inl (gA Γ 0, 7, .inl fun _ => 0))), (L 16, some (.inl (gA Γ 1, 160, .inl fun _ => 0))), (L 15, some (.inl (gA Γ 6, 6, rfA fun i => some (ns.getD i 0)))), (L 14, some (.inl (gA Γ 6, 6, rfA fun i => some (ks.getD i 0)))), (L 12, some (.inl (gA Γ 5, 6, rfA fun _ => none))), (L 10, some (.inr (1, fl0))), (L 7, some (.inl (gA Γ 0, 5, .inl fun j => lk0 (nI j)))), (L 5, some (.inl (gA Γ 0, 7, .inl fun _ => 0))), (L 4, some (.inl (gA Γ 0, 7, .inl fun _ => 0))), (L 3, some (.inl (gA Γ 0, 7, .inl fun _ => 0))), (L 2, some (.inl (gA Γ 0, 7, .inl fun _ => 0))), (L 1, some (.inl (gA Γ 0, 7, .inl fun _ => 0))), (L 0, some (.inl (gA Γ 3, 7, rfA fun _ => none)))] := by
  have nb : ∀ {b : Nat} {c : Nat}, (if b < 0 then some c else none) = none := fun {b c} => if_neg (Nat.not_lt_zero b)
  have e0 : xcs Γ L (x00 ks ns) 0 0 = some (.inl (gA Γ 3, 7, rfA fun _ => none)) := by
    rw [xcs_b]
    show some (Sum.inl (gA Γ 3, 7, rfA fun b => if b < 0 then some (L (36 + b)) else none)) = _
    simp only [nb]
  have e12 : xcs Γ L (x00 ks ns) 0 12 = some (.inl (gA Γ 5, 6, rfA fun _ => none)) := by
    show some (Sum.inl (gA Γ 5, 6, rfA fun b => if b < 0 then some (L (57 + b)) else none)) = _
    simp only [nb]
  have es : ∀ k, k < 4 → xcs Γ L (x00 ks ns) 0 (49 + k) = some (.inr (2, [.null])) := fun k hk => by
    rw [xcs_sh hk]
    show some (Sum.inr (2, [if (-1 : Int32) = -1 then Value.null else _])) = _
    rw [if_pos rfl]
  have e49 := es 0 (by decide)
  have e50 := es 1 (by decide)
  have e51 := es 2 (by decide)
  have e52 := es 3 (by decide)
  show [(L 35, xcs Γ L (x00 ks ns) 0 35), (L 34, xcs Γ L (x00 ks ns) 0 34), (L 52, xcs Γ L (x00 ks ns) 0 (49 + 3)), (L 51, xcs Γ L (x00 ks ns) 0 (49 + 2)), (L 50, xcs Γ L (x00 ks ns) 0 (49 + 1)), (L 49, xcs Γ L (x00 ks ns) 0 (49 + 0)), (L 33, xcs Γ L (x00 ks ns) 0 33), (L 32, xcs Γ L (x00 ks ns) 0 32), (L 48, xcs Γ L (x00 ks ns) 0 48), (L 47, xcs Γ L (x00 ks ns) 0 47), (L 46, xcs Γ L (x00 ks ns) 0 46), (L 45, xcs Γ L (x00 ks ns) 0 45), (L 44, xcs Γ L (x00 ks ns) 0 44), (L 43, xcs Γ L (x00 ks ns) 0 43), (L 31, xcs Γ L (x00 ks ns) 0 31), (L 29, xcs Γ L (x00 ks ns) 0 29), (L 26, xcs Γ L (x00 ks ns) 0 26), (L 25, xcs Γ L (x00 ks ns) 0 25), (L 16, xcs Γ L (x00 ks ns) 0 16), (L 15, xcs Γ L (x00 ks ns) 0 15), (L 14, xcs Γ L (x00 ks ns) 0 14), (L 12, xcs Γ L (x00 ks ns) 0 12), (L 10, xcs Γ L (x00 ks ns) 0 10), (L 7, xcs Γ L (x00 ks ns) 0 7), (L 5, xcs Γ L (x00 ks ns) 0 5), (L 4, xcs Γ L (x00 ks ns) 0 4), (L 3, xcs Γ L (x00 ks ns) 0 3), (L 2, xcs Γ L (x00 ks ns) 0 2), (L 1, xcs Γ L (x00 ks ns) 0 1), (L 0, xcs Γ L (x00 ks ns) 0 0)] = _
  rw [e0, e12, e49, e50, e51, e52]
  rfl
theorem tm00 : (f00 17).toNatClampNeg = 0 := by decide
theorem q713n : Cond.classLink RX0 273 (FieldType.array (.object "BoatsCalledIn$Node")).toString ∈ lw_all := by
  have e : (FieldType.array (.object "BoatsCalledIn$Node")).toString = "[LBoatsCalledIn$Node;" := by decide +kernel
  rw [e]
  exact q713
theorem c_Xinit : Ct Γ A yX0_init wX0_init 60 200 900 [.ref a] (Wl [(a, .inr (0, fs0))]) (RV fun h => ∃ r, XTe Γ a oInit r h) := by
  refine Ct.ofI (cc := cX0_init) (nL := 1) (ret := none) (ls := [some (.ref a)]) rfl rfl rfl (nle rfl) ?_
  intro K hK hQ hI
  obtain ⟨z275, v275, hev275, hS275⟩ := ls_X0_275 hK.g
  obtain ⟨z277, v277, hev277, hS277⟩ := ls_X0_277 hK.g
  obtain ⟨z279, v279, hev279, hS279⟩ := ls_X0_279 hK.g
  obtain ⟨z281, v281, hev281, hS281⟩ := ls_X0_281 hK.g
  obtain ⟨z283, v283, hev283, hS283⟩ := ls_X0_283 hK.g
  obtain ⟨z285, v285, hev285, hS285⟩ := ls_X0_285 hK.g
  obtain ⟨z286, v286, hev286, hS286⟩ := ls_X0_286 hK.g
  obtain ⟨z288, v288, hev288, hS288⟩ := ls_X0_288 hK.g
  obtain ⟨z290, v290, hev290, hS290⟩ := ls_X0_290 hK.g
  obtain ⟨z292, v292, hev292, hS292⟩ := ls_X0_292 hK.g
  obtain ⟨z294, v294, hev294, hS294⟩ := ls_X0_294 hK.g
  obtain ⟨z296, v296, hev296, hS296⟩ := ls_X0_296 hK.g
  obtain ⟨z324, v324, hev324, hS324⟩ := ls_X0_324 hK.g
  refine j_aload_n (pc := 0) hK dX0_init_0 rfl ?_
  refine j_obj (pc := 1) hK hQ q629 dX0_init_1 (by decide) (by decide) ?_
  refine j_aload_n (pc := 4) hK dX0_init_4 rfl ?_
  refine j_bipush (pc := 5) (v := 7) hK dX0_init_5 (by decide) ?_
  refine j_anew (pc := 7) (t := 3) (N := 7) hK hQ q171 q630 rfl (by decide) (by decide) (by decide) (nle rfl) (nle rfl) dX0_init_7 (fun b7 => ?_)
  refine J.mono Wl.newT ?_
  refine J.wide (c2 := 1) (s2 := 7) (nle rfl) (nle rfl) ?_
  refine k_put (pc := 10) (k := 0) (fs' := [.ref b7, .null, .null, .null, .null, .null, .int 0, .null, .int 0, .int 0, .null, .int 0, .null, .int 0, .null, .null, .null, .int 0, .int 0, .int 0, .int 0, .int 0, .int 0, .int 0, .int 0, .null, .null, .int 0, .int 0, .null, .int 0, .null, .null, .null, .null]) hK hI (by decide) q747 rfl rfl rfl rfl (nle rfl) rfl dX0_init_10 ?_
  refine j_aload_n (pc := 13) hK dX0_init_13 rfl ?_
  refine j_bipush (pc := 14) (v := 7) hK dX0_init_14 (by decide) ?_
  refine j_newa (pc := 16) (atype := .int) (x := (7, .inl (fun _ => 0))) (t := 0) (N := 7) hK hQ q712 rfl rfl (fun _ _ h => h) (fun cA => by rfl) (by decide) (by decide) (by decide) (nle rfl) (nle rfl) dX0_init_16 (fun b16 => ?_)
  refine J.mono Wl.newT ?_
  refine J.wide (c2 := 2) (s2 := 14) (nle rfl) (nle rfl) ?_
  refine k_put (pc := 18) (k := 1) (fs' := [.ref b7, .ref b16, .null, .null, .null, .null, .int 0, .null, .int 0, .int 0, .null, .int 0, .null, .int 0, .null, .null, .null, .int 0, .int 0, .int 0, .int 0, .int 0, .int 0, .int 0, .int 0, .null, .null, .int 0, .int 0, .null, .int 0, .null, .null, .null, .null]) hK hI (by decide) q749 rfl rfl rfl rfl (nle rfl) rfl dX0_init_18 ?_
  refine j_aload_n (pc := 21) hK dX0_init_21 rfl ?_
  refine j_bipush (pc := 22) (v := 7) hK dX0_init_22 (by decide) ?_
  refine j_newa (pc := 24) (atype := .int) (x := (7, .inl (fun _ => 0))) (t := 0) (N := 7) hK hQ q712 rfl rfl (fun _ _ h => h) (fun cA => by rfl) (by decide) (by decide) (by decide) (nle rfl) (nle rfl) dX0_init_24 (fun b24 => ?_)
  refine J.mono Wl.newT ?_
  refine J.wide (c2 := 3) (s2 := 21) (nle rfl) (nle rfl) ?_
  refine k_put (pc := 26) (k := 2) (fs' := [.ref b7, .ref b16, .ref b24, .null, .null, .null, .int 0, .null, .int 0, .int 0, .null, .int 0, .null, .int 0, .null, .null, .null, .int 0, .int 0, .int 0, .int 0, .int 0, .int 0, .int 0, .int 0, .null, .null, .int 0, .int 0, .null, .int 0, .null, .null, .null, .null]) hK hI (by decide) q750 rfl rfl rfl rfl (nle rfl) rfl dX0_init_26 ?_
  refine j_aload_n (pc := 29) hK dX0_init_29 rfl ?_
  refine j_bipush (pc := 30) (v := 7) hK dX0_init_30 (by decide) ?_
  refine j_newa (pc := 32) (atype := .int) (x := (7, .inl (fun _ => 0))) (t := 0) (N := 7) hK hQ q712 rfl rfl (fun _ _ h => h) (fun cA => by rfl) (by decide) (by decide) (by decide) (nle rfl) (nle rfl) dX0_init_32 (fun b32 => ?_)
  refine J.mono Wl.newT ?_
  refine J.wide (c2 := 4) (s2 := 28) (nle rfl) (nle rfl) ?_
  refine k_put (pc := 34) (k := 3) (fs' := [.ref b7, .ref b16, .ref b24, .ref b32, .null, .null, .int 0, .null, .int 0, .int 0, .null, .int 0, .null, .int 0, .null, .null, .null, .int 0, .int 0, .int 0, .int 0, .int 0, .int 0, .int 0, .int 0, .null, .null, .int 0, .int 0, .null, .int 0, .null, .null, .null, .null]) hK hI (by decide) q751 rfl rfl rfl rfl (nle rfl) rfl dX0_init_34 ?_
  refine j_aload_n (pc := 37) hK dX0_init_37 rfl ?_
  refine j_bipush (pc := 38) (v := 7) hK dX0_init_38 (by decide) ?_
  refine j_newa (pc := 40) (atype := .int) (x := (7, .inl (fun _ => 0))) (t := 0) (N := 7) hK hQ q712 rfl rfl (fun _ _ h => h) (fun cA => by rfl) (by decide) (by decide) (by decide) (nle rfl) (nle rfl) dX0_init_40 (fun b40 => ?_)
  refine J.mono Wl.newT ?_
  refine J.wide (c2 := 5) (s2 := 35) (nle rfl) (nle rfl) ?_
  refine k_put (pc := 42) (k := 4) (fs' := [.ref b7, .ref b16, .ref b24, .ref b32, .ref b40, .null, .int 0, .null, .int 0, .int 0, .null, .int 0, .null, .int 0, .null, .null, .null, .int 0, .int 0, .int 0, .int 0, .int 0, .int 0, .int 0, .int 0, .null, .null, .int 0, .int 0, .null, .int 0, .null, .null, .null, .null]) hK hI (by decide) q752 rfl rfl rfl rfl (nle rfl) rfl dX0_init_42 ?_
  refine j_aload_n (pc := 45) hK dX0_init_45 rfl ?_
  refine j_bipush (pc := 46) (v := 7) hK dX0_init_46 (by decide) ?_
  refine j_newa (pc := 48) (atype := .int) (x := (7, .inl (fun _ => 0))) (t := 0) (N := 7) hK hQ q712 rfl rfl (fun _ _ h => h) (fun cA => by rfl) (by decide) (by decide) (by decide) (nle rfl) (nle rfl) dX0_init_48 (fun b48 => ?_)
  refine J.mono Wl.newT ?_
  refine J.wide (c2 := 6) (s2 := 42) (nle rfl) (nle rfl) ?_
  refine k_put (pc := 50) (k := 5) (fs' := [.ref b7, .ref b16, .ref b24, .ref b32, .ref b40, .ref b48, .int 0, .null, .int 0, .int 0, .null, .int 0, .null, .int 0, .null, .null, .null, .int 0, .int 0, .int 0, .int 0, .int 0, .int 0, .int 0, .int 0, .null, .null, .int 0, .int 0, .null, .int 0, .null, .null, .null, .null]) hK hI (by decide) q753 rfl rfl rfl rfl (nle rfl) rfl dX0_init_50 ?_
  refine j_aload_n (pc := 53) hK dX0_init_53 rfl ?_
  refine j_iconst (pc := 54) (v := 5) hK dX0_init_54 (by decide) ?_
  refine j_newa (pc := 55) (atype := .int) (x := (5, .inl (fun _ => 0))) (t := 0) (N := 5) hK hQ q712 rfl rfl (fun _ _ h => h) (fun cA => by rfl) (by decide) (by decide) (by decide) (nle rfl) (nle rfl) dX0_init_55 (fun b55 => ?_)
  refine J.mono Wl.newT ?_
  refine j_dup (pc := 57) hK dX0_init_57 rfl ?_
  refine j_iconst (pc := 58) (v := 0) hK dX0_init_58 (by decide) ?_
  refine j_bipush (pc := 59) (v := 27) hK dX0_init_59 (by decide) ?_
  refine k_ast (pc := 61) hK (vp_in_c (by decide)) (fun j _ => rfl) dX0_init_61 ?_
  refine j_dup (pc := 62) hK dX0_init_62 rfl ?_
  refine j_iconst (pc := 63) (v := 1) hK dX0_init_63 (by decide) ?_
  refine j_iconst (pc := 64) (v := 0) hK dX0_init_64 (by decide) ?_
  refine k_ast (pc := 65) hK (vp_in_c (by decide)) (fun j _ => rfl) dX0_init_65 ?_
  refine j_dup (pc := 66) hK dX0_init_66 rfl ?_
  refine j_iconst (pc := 67) (v := 2) hK dX0_init_67 (by decide) ?_
  refine j_iconst (pc := 68) (v := 2) hK dX0_init_68 (by decide) ?_
  refine k_ast (pc := 69) hK (vp_in_c (by decide)) (fun j _ => rfl) dX0_init_69 ?_
  refine j_dup (pc := 70) hK dX0_init_70 rfl ?_
  refine j_iconst (pc := 71) (v := 3) hK dX0_init_71 (by decide) ?_
  refine j_iconst (pc := 72) (v := 1) hK dX0_init_72 (by decide) ?_
  refine k_ast (pc := 73) hK (vp_in_c (by decide)) (fun j _ => rfl) dX0_init_73 ?_
  refine j_dup (pc := 74) hK dX0_init_74 rfl ?_
  refine j_iconst (pc := 75) (v := 4) hK dX0_init_75 (by decide) ?_
  refine j_iconst (pc := 76) (v := 0) hK dX0_init_76 (by decide) ?_
  refine k_ast (pc := 77) hK (vp_in_c (by decide)) (F' := fun j => lk0 (nI j)) (by intro j hj; rcases (show j = 0 ∨ j = 1 ∨ j = 2 ∨ j = 3 ∨ j = 4 by omega) with rfl | rfl | rfl | rfl | rfl <;> decide) dX0_init_77 ?_
  refine J.wide (c2 := 7) (s2 := 47) (nle rfl) (nle rfl) ?_
  refine k_put (pc := 78) (k := 7) (fs' := [.ref b7, .ref b16, .ref b24, .ref b32, .ref b40, .ref b48, .int 0, .ref b55, .int 0, .int 0, .null, .int 0, .null, .int 0, .null, .null, .null, .int 0, .int 0, .int 0, .int 0, .int 0, .int 0, .int 0, .int 0, .null, .null, .int 0, .int 0, .null, .int 0, .null, .null, .null, .null]) hK hI (by decide) q756 rfl rfl rfl rfl (nle rfl) rfl dX0_init_78 ?_
  refine j_aload_n (pc := 81) hK dX0_init_81 rfl ?_
  refine j_new (pc := 82) (ci := 1) (fs := [.null, .null, .null, .null, .null, .int 0]) hK hQ rfl in_X1 tyX1_ok q392 q631 q74 (by decide) (nle rfl) (nle rfl) dX0_init_82 (fun a82 => ?_)
  refine j_dup (pc := 85) hK dX0_init_85 rfl ?_
  refine j_callI (pc := 86) hK hQ (c_XfaultInit (P := Wl _)) cal_X1_init q687 dX0_init_86 rfl rfl (nle rfl) (nle rfl) (nle rfl) (nle rfl) (kr_v ?_) kx_v
  refine J.mono Wl.newT ?_
  refine J.wide (c2 := 8) (s2 := 53) (nle rfl) (nle rfl) ?_
  refine k_put (pc := 89) (k := 10) (fs' := [.ref b7, .ref b16, .ref b24, .ref b32, .ref b40, .ref b48, .int 0, .ref b55, .int 0, .int 0, .ref a82, .int 0, .null, .int 0, .null, .null, .null, .int 0, .int 0, .int 0, .int 0, .int 0, .int 0, .int 0, .int 0, .null, .null, .int 0, .int 0, .null, .int 0, .null, .null, .null, .null]) hK hI (by decide) q760 rfl rfl rfl rfl (nle rfl) rfl dX0_init_89 ?_
  refine j_aload_n (pc := 92) hK dX0_init_92 rfl ?_
  refine j_bipush (pc := 93) (v := 6) hK dX0_init_93 (by decide) ?_
  refine j_anewA (pc := 95) (t := 5) (N := 6) (E := .object "BoatsCalledIn$Node") hK hQ q713n q714 rfl (by decide) (by decide) (by decide) (nle rfl) (nle rfl) dX0_init_95 (fun b95 => ?_)
  refine J.mono Wl.newT ?_
  refine J.wide (c2 := 9) (s2 := 59) (nle rfl) (nle rfl) ?_
  refine k_put (pc := 98) (k := 12) (fs' := [.ref b7, .ref b16, .ref b24, .ref b32, .ref b40, .ref b48, .int 0, .ref b55, .int 0, .int 0, .ref a82, .int 0, .ref b95, .int 0, .null, .null, .null, .int 0, .int 0, .int 0, .int 0, .int 0, .int 0, .int 0, .int 0, .null, .null, .int 0, .int 0, .null, .int 0, .null, .null, .null, .null]) hK hI (by decide) q763 rfl rfl rfl rfl (nle rfl) rfl dX0_init_98 ?_
  refine j_aload_n (pc := 101) hK dX0_init_101 rfl ?_
  refine j_bipush (pc := 102) (v := 6) hK dX0_init_102 (by decide) ?_
  refine j_anew (pc := 104) (t := 6) (N := 6) hK hQ q715 q716 rfl (by decide) (by decide) (by decide) (nle rfl) (nle rfl) dX0_init_104 (fun b104 => ?_)
  refine J.mono Wl.newT ?_
  refine j_dup (pc := 107) hK dX0_init_107 rfl ?_
  refine j_iconst (pc := 108) (v := 0) hK dX0_init_108 (by decide) ?_
  refine j_ldcsw (pc := 109) hK q717 hev275 dX0_init_109 ?_
  refine k_aastS (pc := 112) hK hS275 (vp_in_c (by decide)) (fun j _ => rfl) dX0_init_112 ?_
  refine j_dup (pc := 113) hK dX0_init_113 rfl ?_
  refine j_iconst (pc := 114) (v := 1) hK dX0_init_114 (by decide) ?_
  refine j_ldcsw (pc := 115) hK q718 hev277 dX0_init_115 ?_
  refine k_aastS (pc := 118) hK hS277 (vp_in_c (by decide)) (fun j _ => rfl) dX0_init_118 ?_
  refine j_dup (pc := 119) hK dX0_init_119 rfl ?_
  refine j_iconst (pc := 120) (v := 2) hK dX0_init_120 (by decide) ?_
  refine j_ldcsw (pc := 121) hK q719 hev279 dX0_init_121 ?_
  refine k_aastS (pc := 124) hK hS279 (vp_in_c (by decide)) (fun j _ => rfl) dX0_init_124 ?_
  refine j_dup (pc := 125) hK dX0_init_125 rfl ?_
  refine j_iconst (pc := 126) (v := 3) hK dX0_init_126 (by decide) ?_
  refine j_ldcsw (pc := 127) hK q720 hev281 dX0_init_127 ?_
  refine k_aastS (pc := 130) hK hS281 (vp_in_c (by decide)) (fun j _ => rfl) dX0_init_130 ?_
  refine j_dup (pc := 131) hK dX0_init_131 rfl ?_
  refine j_iconst (pc := 132) (v := 4) hK dX0_init_132 (by decide) ?_
  refine j_ldcsw (pc := 133) hK q721 hev283 dX0_init_133 ?_
  refine k_aastS (pc := 136) hK hS283 (vp_in_c (by decide)) (fun j _ => rfl) dX0_init_136 ?_
  refine j_dup (pc := 137) hK dX0_init_137 rfl ?_
  refine j_iconst (pc := 138) (v := 5) hK dX0_init_138 (by decide) ?_
  refine j_ldcsw (pc := 139) hK q722 hev285 dX0_init_139 ?_
  refine k_aastS (pc := 142) hK hS285 (vp_in_c (by decide)) (f' := fun j => some ([z275, z277, z279, z281, z283, z285].getD j 0)) (by intro j hj; rcases (show j = 0 ∨ j = 1 ∨ j = 2 ∨ j = 3 ∨ j = 4 ∨ j = 5 by omega) with rfl | rfl | rfl | rfl | rfl | rfl <;> rfl) dX0_init_142 ?_
  refine J.wide (c2 := 10) (s2 := 65) (nle rfl) (nle rfl) ?_
  refine k_put (pc := 143) (k := 14) (fs' := [.ref b7, .ref b16, .ref b24, .ref b32, .ref b40, .ref b48, .int 0, .ref b55, .int 0, .int 0, .ref a82, .int 0, .ref b95, .int 0, .ref b104, .null, .null, .int 0, .int 0, .int 0, .int 0, .int 0, .int 0, .int 0, .int 0, .null, .null, .int 0, .int 0, .null, .int 0, .null, .null, .null, .null]) hK hI (by decide) q765 rfl rfl rfl rfl (nle rfl) rfl dX0_init_143 ?_
  refine j_aload_n (pc := 146) hK dX0_init_146 rfl ?_
  refine j_bipush (pc := 147) (v := 6) hK dX0_init_147 (by decide) ?_
  refine j_anew (pc := 149) (t := 6) (N := 6) hK hQ q715 q716 rfl (by decide) (by decide) (by decide) (nle rfl) (nle rfl) dX0_init_149 (fun b149 => ?_)
  refine J.mono Wl.newT ?_
  refine j_dup (pc := 152) hK dX0_init_152 rfl ?_
  refine j_iconst (pc := 153) (v := 0) hK dX0_init_153 (by decide) ?_
  refine j_ldcsw (pc := 154) hK q723 hev286 dX0_init_154 ?_
  refine k_aastS (pc := 157) hK hS286 (vp_in_c (by decide)) (fun j _ => rfl) dX0_init_157 ?_
  refine j_dup (pc := 158) hK dX0_init_158 rfl ?_
  refine j_iconst (pc := 159) (v := 1) hK dX0_init_159 (by decide) ?_
  refine j_ldcsw (pc := 160) hK q724 hev288 dX0_init_160 ?_
  refine k_aastS (pc := 163) hK hS288 (vp_in_c (by decide)) (fun j _ => rfl) dX0_init_163 ?_
  refine j_dup (pc := 164) hK dX0_init_164 rfl ?_
  refine j_iconst (pc := 165) (v := 2) hK dX0_init_165 (by decide) ?_
  refine j_ldcsw (pc := 166) hK q725 hev290 dX0_init_166 ?_
  refine k_aastS (pc := 169) hK hS290 (vp_in_c (by decide)) (fun j _ => rfl) dX0_init_169 ?_
  refine j_dup (pc := 170) hK dX0_init_170 rfl ?_
  refine j_iconst (pc := 171) (v := 3) hK dX0_init_171 (by decide) ?_
  refine j_ldcsw (pc := 172) hK q726 hev292 dX0_init_172 ?_
  refine k_aastS (pc := 175) hK hS292 (vp_in_c (by decide)) (fun j _ => rfl) dX0_init_175 ?_
  refine j_dup (pc := 176) hK dX0_init_176 rfl ?_
  refine j_iconst (pc := 177) (v := 4) hK dX0_init_177 (by decide) ?_
  refine j_ldcsw (pc := 178) hK q727 hev294 dX0_init_178 ?_
  refine k_aastS (pc := 181) hK hS294 (vp_in_c (by decide)) (fun j _ => rfl) dX0_init_181 ?_
  refine j_dup (pc := 182) hK dX0_init_182 rfl ?_
  refine j_iconst (pc := 183) (v := 5) hK dX0_init_183 (by decide) ?_
  refine j_ldcsw (pc := 184) hK q728 hev296 dX0_init_184 ?_
  refine k_aastS (pc := 187) hK hS296 (vp_in_c (by decide)) (f' := fun j => some ([z286, z288, z290, z292, z294, z296].getD j 0)) (by intro j hj; rcases (show j = 0 ∨ j = 1 ∨ j = 2 ∨ j = 3 ∨ j = 4 ∨ j = 5 by omega) with rfl | rfl | rfl | rfl | rfl | rfl <;> rfl) dX0_init_187 ?_
  refine J.wide (c2 := 11) (s2 := 71) (nle rfl) (nle rfl) ?_
  refine k_put (pc := 188) (k := 15) (fs' := [.ref b7, .ref b16, .ref b24, .ref b32, .ref b40, .ref b48, .int 0, .ref b55, .int 0, .int 0, .ref a82, .int 0, .ref b95, .int 0, .ref b104, .ref b149, .null, .int 0, .int 0, .int 0, .int 0, .int 0, .int 0, .int 0, .int 0, .null, .null, .int 0, .int 0, .null, .int 0, .null, .null, .null, .null]) hK hI (by decide) q766 rfl rfl rfl rfl (nle rfl) rfl dX0_init_188 ?_
  refine j_aload_n (pc := 191) hK dX0_init_191 rfl ?_
  refine j_sipush (pc := 192) (v := 160) hK dX0_init_192 (by decide) ?_
  refine j_newa (pc := 195) (atype := .byte) (x := (160, .inl (fun _ => 0))) (t := 1) (N := 160) hK hQ q569 rfl rfl (fun _ _ h => h) (fun cA => by rfl) (by decide) (by decide) (by decide) (nle rfl) (nle rfl) dX0_init_195 (fun b195 => ?_)
  refine J.mono Wl.newT ?_
  refine J.wide (c2 := 12) (s2 := 231) (nle rfl) (nle rfl) ?_
  refine k_put (pc := 197) (k := 16) (fs' := [.ref b7, .ref b16, .ref b24, .ref b32, .ref b40, .ref b48, .int 0, .ref b55, .int 0, .int 0, .ref a82, .int 0, .ref b95, .int 0, .ref b104, .ref b149, .ref b195, .int 0, .int 0, .int 0, .int 0, .int 0, .int 0, .int 0, .int 0, .null, .null, .int 0, .int 0, .null, .int 0, .null, .null, .null, .null]) hK hI (by decide) q767 rfl rfl rfl rfl (nle rfl) rfl dX0_init_197 ?_
  refine j_aload_n (pc := 200) hK dX0_init_200 rfl ?_
  refine j_bipush (pc := 201) (v := 7) hK dX0_init_201 (by decide) ?_
  refine j_newa (pc := 203) (atype := .int) (x := (7, .inl (fun _ => 0))) (t := 0) (N := 7) hK hQ q712 rfl rfl (fun _ _ h => h) (fun cA => by rfl) (by decide) (by decide) (by decide) (nle rfl) (nle rfl) dX0_init_203 (fun b203 => ?_)
  refine J.mono Wl.newT ?_
  refine J.wide (c2 := 13) (s2 := 238) (nle rfl) (nle rfl) ?_
  refine k_put (pc := 205) (k := 25) (fs' := [.ref b7, .ref b16, .ref b24, .ref b32, .ref b40, .ref b48, .int 0, .ref b55, .int 0, .int 0, .ref a82, .int 0, .ref b95, .int 0, .ref b104, .ref b149, .ref b195, .int 0, .int 0, .int 0, .int 0, .int 0, .int 0, .int 0, .int 0, .ref b203, .null, .int 0, .int 0, .null, .int 0, .null, .null, .null, .null]) hK hI (by decide) q776 rfl rfl rfl rfl (nle rfl) rfl dX0_init_205 ?_
  refine j_aload_n (pc := 208) hK dX0_init_208 rfl ?_
  refine j_bipush (pc := 209) (v := 7) hK dX0_init_209 (by decide) ?_
  refine j_newa (pc := 211) (atype := .int) (x := (7, .inl (fun _ => 0))) (t := 0) (N := 7) hK hQ q712 rfl rfl (fun _ _ h => h) (fun cA => by rfl) (by decide) (by decide) (by decide) (nle rfl) (nle rfl) dX0_init_211 (fun b211 => ?_)
  refine J.mono Wl.newT ?_
  refine J.wide (c2 := 14) (s2 := 245) (nle rfl) (nle rfl) ?_
  refine k_put (pc := 213) (k := 26) (fs' := [.ref b7, .ref b16, .ref b24, .ref b32, .ref b40, .ref b48, .int 0, .ref b55, .int 0, .int 0, .ref a82, .int 0, .ref b95, .int 0, .ref b104, .ref b149, .ref b195, .int 0, .int 0, .int 0, .int 0, .int 0, .int 0, .int 0, .int 0, .ref b203, .ref b211, .int 0, .int 0, .null, .int 0, .null, .null, .null, .null]) hK hI (by decide) q777 rfl rfl rfl rfl (nle rfl) rfl dX0_init_213 ?_
  refine j_aload_n (pc := 216) hK dX0_init_216 rfl ?_
  refine j_bipush (pc := 217) (v := 7) hK dX0_init_217 (by decide) ?_
  refine j_newa (pc := 219) (atype := .int) (x := (7, .inl (fun _ => 0))) (t := 0) (N := 7) hK hQ q712 rfl rfl (fun _ _ h => h) (fun cA => by rfl) (by decide) (by decide) (by decide) (nle rfl) (nle rfl) dX0_init_219 (fun b219 => ?_)
  refine J.mono Wl.newT ?_
  refine J.wide (c2 := 15) (s2 := 252) (nle rfl) (nle rfl) ?_
  refine k_put (pc := 221) (k := 29) (fs' := [.ref b7, .ref b16, .ref b24, .ref b32, .ref b40, .ref b48, .int 0, .ref b55, .int 0, .int 0, .ref a82, .int 0, .ref b95, .int 0, .ref b104, .ref b149, .ref b195, .int 0, .int 0, .int 0, .int 0, .int 0, .int 0, .int 0, .int 0, .ref b203, .ref b211, .int 0, .int 0, .ref b219, .int 0, .null, .null, .null, .null]) hK hI (by decide) q780 rfl rfl rfl rfl (nle rfl) rfl dX0_init_221 ?_
  refine j_aload_n (pc := 224) hK dX0_init_224 rfl ?_
  refine j_bipush (pc := 225) (v := 6) hK dX0_init_225 (by decide) ?_
  refine j_bipush (pc := 227) (v := 7) hK dX0_init_227 (by decide) ?_
  refine j_multi (pc := 229) (N := 6) (M := 7) hK hQ q729 q730 q712 (by decide) (by decide) (by decide) (by decide) (by decide) (by decide) (nle rfl) (nle rfl) dX0_init_229 (fun b229 => ?_)
  refine J.mono (fun h w => MuP.wl w) ?_
  refine J.wide (c2 := 22) (s2 := 300) (nle rfl) (nle rfl) ?_
  refine k_put (pc := 233) (k := 31) (fs' := [.ref b7, .ref b16, .ref b24, .ref b32, .ref b40, .ref b48, .int 0, .ref b55, .int 0, .int 0, .ref a82, .int 0, .ref b95, .int 0, .ref b104, .ref b149, .ref b195, .int 0, .int 0, .int 0, .int 0, .int 0, .int 0, .int 0, .int 0, .ref b203, .ref b211, .int 0, .int 0, .ref b219, .int 0, .ref b229, .null, .null, .null]) hK hI (by decide) q782 rfl rfl rfl rfl (nle rfl) rfl dX0_init_233 ?_
  refine j_aload_n (pc := 236) hK dX0_init_236 rfl ?_
  refine j_iconst (pc := 237) (v := 5) hK dX0_init_237 (by decide) ?_
  refine j_newa (pc := 238) (atype := .int) (x := (5, .inl (fun _ => 0))) (t := 0) (N := 5) hK hQ q712 rfl rfl (fun _ _ h => h) (fun cA => by rfl) (by decide) (by decide) (by decide) (nle rfl) (nle rfl) dX0_init_238 (fun b238 => ?_)
  refine J.mono Wl.newT ?_
  refine J.wide (c2 := 23) (s2 := 305) (nle rfl) (nle rfl) ?_
  refine k_put (pc := 240) (k := 32) (fs' := [.ref b7, .ref b16, .ref b24, .ref b32, .ref b40, .ref b48, .int 0, .ref b55, .int 0, .int 0, .ref a82, .int 0, .ref b95, .int 0, .ref b104, .ref b149, .ref b195, .int 0, .int 0, .int 0, .int 0, .int 0, .int 0, .int 0, .int 0, .ref b203, .ref b211, .int 0, .int 0, .ref b219, .int 0, .ref b229, .ref b238, .null, .null]) hK hI (by decide) q783 rfl rfl rfl rfl (nle rfl) rfl dX0_init_240 ?_
  refine j_aload_n (pc := 243) hK dX0_init_243 rfl ?_
  refine j_iconst (pc := 244) (v := 4) hK dX0_init_244 (by decide) ?_
  refine j_newa (pc := 245) (atype := .int) (x := (4, .inl (fun _ => 0))) (t := 0) (N := 4) hK hQ q712 rfl rfl (fun _ _ h => h) (fun cA => by rfl) (by decide) (by decide) (by decide) (nle rfl) (nle rfl) dX0_init_245 (fun b245 => ?_)
  refine J.mono Wl.newT ?_
  refine J.wide (c2 := 24) (s2 := 309) (nle rfl) (nle rfl) ?_
  refine k_put (pc := 247) (k := 33) (fs' := [.ref b7, .ref b16, .ref b24, .ref b32, .ref b40, .ref b48, .int 0, .ref b55, .int 0, .int 0, .ref a82, .int 0, .ref b95, .int 0, .ref b104, .ref b149, .ref b195, .int 0, .int 0, .int 0, .int 0, .int 0, .int 0, .int 0, .int 0, .ref b203, .ref b211, .int 0, .int 0, .ref b219, .int 0, .ref b229, .ref b238, .ref b245, .null]) hK hI (by decide) q784 rfl rfl rfl rfl (nle rfl) rfl dX0_init_247 ?_
  refine j_aload_n (pc := 250) hK dX0_init_250 rfl ?_
  refine j_iconst (pc := 251) (v := 4) hK dX0_init_251 (by decide) ?_
  refine j_anew (pc := 252) (t := 8) (N := 4) hK hQ q731 q732 rfl (by decide) (by decide) (by decide) (nle rfl) (nle rfl) dX0_init_252 (fun b252 => ?_)
  refine J.mono Wl.newT ?_
  refine j_dup (pc := 255) hK dX0_init_255 rfl ?_
  refine j_iconst (pc := 256) (v := 0) hK dX0_init_256 (by decide) ?_
  refine j_new (pc := 257) (ci := 2) (fs := [.null]) hK hQ rfl in_X2 tyX2_ok q731 q733 q75 (by decide) (nle rfl) (nle rfl) dX0_init_257 (fun a257 => ?_)
  refine J.mono Wl.newU ?_
  refine j_dup (pc := 260) hK dX0_init_260 rfl ?_
  refine j_callIN (pc := 261) hK hQ (c_XsheetInit) cal_X2_init q734 dX0_init_261 rfl rfl (nle rfl) (nle rfl) (nle rfl) (nle rfl) (kr_v ?_) kx_v
  refine J.wide (c2 := 26) (s2 := 314) (nle rfl) (nle rfl) ?_
  refine k_aastN (pc := 264) hK (vp_in_c (by decide)) (fun j _ => rfl) dX0_init_264 ?_
  refine j_dup (pc := 265) hK dX0_init_265 rfl ?_
  refine j_iconst (pc := 266) (v := 1) hK dX0_init_266 (by decide) ?_
  refine j_new (pc := 267) (ci := 2) (fs := [.null]) hK hQ rfl in_X2 tyX2_ok q731 q733 q75 (by decide) (nle rfl) (nle rfl) dX0_init_267 (fun a267 => ?_)
  refine J.mono Wl.newU ?_
  refine j_dup (pc := 270) hK dX0_init_270 rfl ?_
  refine j_callIN (pc := 271) hK hQ (c_XsheetInit) cal_X2_init q734 dX0_init_271 rfl rfl (nle rfl) (nle rfl) (nle rfl) (nle rfl) (kr_v ?_) kx_v
  refine J.wide (c2 := 27) (s2 := 315) (nle rfl) (nle rfl) ?_
  refine k_aastN (pc := 274) hK (vp_in_c (by decide)) (fun j _ => rfl) dX0_init_274 ?_
  refine j_dup (pc := 275) hK dX0_init_275 rfl ?_
  refine j_iconst (pc := 276) (v := 2) hK dX0_init_276 (by decide) ?_
  refine j_new (pc := 277) (ci := 2) (fs := [.null]) hK hQ rfl in_X2 tyX2_ok q731 q733 q75 (by decide) (nle rfl) (nle rfl) dX0_init_277 (fun a277 => ?_)
  refine J.mono Wl.newU ?_
  refine j_dup (pc := 280) hK dX0_init_280 rfl ?_
  refine j_callIN (pc := 281) hK hQ (c_XsheetInit) cal_X2_init q734 dX0_init_281 rfl rfl (nle rfl) (nle rfl) (nle rfl) (nle rfl) (kr_v ?_) kx_v
  refine J.wide (c2 := 28) (s2 := 316) (nle rfl) (nle rfl) ?_
  refine k_aastN (pc := 284) hK (vp_in_c (by decide)) (fun j _ => rfl) dX0_init_284 ?_
  refine j_dup (pc := 285) hK dX0_init_285 rfl ?_
  refine j_iconst (pc := 286) (v := 3) hK dX0_init_286 (by decide) ?_
  refine j_new (pc := 287) (ci := 2) (fs := [.null]) hK hQ rfl in_X2 tyX2_ok q731 q733 q75 (by decide) (nle rfl) (nle rfl) dX0_init_287 (fun a287 => ?_)
  refine J.mono Wl.newU ?_
  refine j_dup (pc := 290) hK dX0_init_290 rfl ?_
  refine j_callIN (pc := 291) hK hQ (c_XsheetInit) cal_X2_init q734 dX0_init_291 rfl rfl (nle rfl) (nle rfl) (nle rfl) (nle rfl) (kr_v ?_) kx_v
  refine J.wide (c2 := 29) (s2 := 317) (nle rfl) (nle rfl) ?_
  refine k_aastN (pc := 294) hK (vp_in_c (by decide)) (f' := fun j => some ((nmL [b7, b16, b24, b32, b40, b48, 0, b55, 0, 0, a82, 0, b95, 0, b104, b149, b195, 0, 0, 0, 0, 0, 0, 0, 0, b203, b211, 0, 0, b219, 0, b229, b238, b245, b252, a, 0, 0, 0, 0, 0, 0, 0, b229 + 1, b229 + 2, b229 + 3, b229 + 4, b229 + 5, b229 + 6, a257, a267, a277, a287]) (49 + j))) (by intro j hj; rcases n4 hj with rfl | rfl | rfl | rfl <;> rfl) dX0_init_294 ?_
  refine J.wide (c2 := 29) (s2 := 317) (nle rfl) (nle rfl) ?_
  refine k_put (pc := 295) (k := 34) (fs' := [.ref b7, .ref b16, .ref b24, .ref b32, .ref b40, .ref b48, .int 0, .ref b55, .int 0, .int 0, .ref a82, .int 0, .ref b95, .int 0, .ref b104, .ref b149, .ref b195, .int 0, .int 0, .int 0, .int 0, .int 0, .int 0, .int 0, .int 0, .ref b203, .ref b211, .int 0, .int 0, .ref b219, .int 0, .ref b229, .ref b238, .ref b245, .ref b252]) hK hI (by decide) q785 rfl rfl rfl rfl (nle rfl) rfl dX0_init_295 ?_
  refine j_picS (i := 14) (b := b229) (t := 7) (n := 6) (f' := fun j => some ((nmL [b7, b16, b24, b32, b40, b48, 0, b55, 0, 0, a82, 0, b95, 0, b104, b149, b195, 0, 0, 0, 0, 0, 0, 0, 0, b203, b211, 0, 0, b219, 0, b229, b238, b245, b252, a, 0, 0, 0, 0, 0, 0, 0, b229 + 1, b229 + 2, b229 + 3, b229 + 4, b229 + 5, b229 + 6, a257, a267, a277, a287]) (43 + j))) rfl (by intro j hj; rcases (show j = 0 ∨ j = 1 ∨ j = 2 ∨ j = 3 ∨ j = 4 ∨ j = 5 by omega) with rfl | rfl | rfl | rfl | rfl | rfl <;> rfl) ?_
  refine J.mono (P' := XI Γ (nmL [b7, b16, b24, b32, b40, b48, 0, b55, 0, 0, a82, 0, b95, 0, b104, b149, b195, 0, 0, 0, 0, 0, 0, 0, 0, b203, b211, 0, 0, b219, 0, b229, b238, b245, b252, a, 0, 0, 0, 0, 0, 0, 0, b229 + 1, b229 + 2, b229 + 3, b229 + 4, b229 + 5, b229 + 6, a257, a267, a277, a287]) f00 g00 T0 TT) (fun h w => ⟨x00 [z275, z277, z279, z281, z283, z285] [z286, z288, z290, z292, z294, z296], Wl.wd (nm := nm0) w (by rw [tm00, born_cells]; rfl) (fun k hk => by rw [tm00]; exact xcs_out hk), XR_00, ⟨by decide, fun t ht => by rw [tm00] at ht; omega⟩, ⟨fun i hi => ?_, fun i hi => ?_⟩, trivial⟩) ?_
  · rcases (show i = 0 ∨ i = 1 ∨ i = 2 ∨ i = 3 ∨ i = 4 ∨ i = 5 by omega) with rfl | rfl | rfl | rfl | rfl | rfl
    · exact ⟨_, hS275⟩
    · exact ⟨_, hS277⟩
    · exact ⟨_, hS279⟩
    · exact ⟨_, hS281⟩
    · exact ⟨_, hS283⟩
    · exact ⟨_, hS285⟩
  · rcases (show i = 0 ∨ i = 1 ∨ i = 2 ∨ i = 3 ∨ i = 4 ∨ i = 5 by omega) with rfl | rfl | rfl | rfl | rfl | rfl
    · exact ⟨_, hS286⟩
    · exact ⟨_, hS288⟩
    · exact ⟨_, hS290⟩
    · exact ⟨_, hS292⟩
    · exact ⟨_, hS294⟩
    · exact ⟨_, hS296⟩
  refine j_aload_n (pc := 298) hK dX0_init_298 rfl ?_
  refine j_ldcsw (pc := 299) hK q742 hev324 dX0_init_299 ?_
  refine j_callV (pc := 302) hK hQ (c_XfirstText (L := nmL [b7, b16, b24, b32, b40, b48, 0, b55, 0, 0, a82, 0, b95, 0, b104, b149, b195, 0, 0, 0, 0, 0, 0, 0, 0, b203, b211, 0, 0, b219, 0, b229, b238, b245, b252, a, 0, 0, 0, 0, 0, 0, 0, b229 + 1, b229 + 2, b229 + 3, b229 + 4, b229 + 5, b229 + 6, a257, a267, a277, a287]) hS324) cal_X0_firstText (xi_isC (fun _ w => w)) q743 dX0_init_302 rfl rfl (nle rfl) (nle rfl) (nle rfl) (nle rfl) (kr_v ?_) kx_v
  exact j_vret (pc := 305) hK hQ (nle rfl) (nle rfl) dX0_init_305 (fun h w => ⟨rfl, w⟩)
end P9F
