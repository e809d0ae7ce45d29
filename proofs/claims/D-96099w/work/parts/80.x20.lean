/-! the class reads a text: newText, text -/
set_option maxRecDepth 100000
def XTe (Γ : Gam) (a : Nat) (x : R3 × TX) (r : Int32) (h : PH) : Prop := ∃ L' f' g' T', L' 35 = a ∧ x = ((r, f', g'), T') ∧ XI Γ L' f' g' T' TT h
section P80
variable {Γ : Gam} {A : Nat → Prop} {L : Nat → Nat} {f : Nat → Int32} {g : Nat → Int32 → Int32} {T : TX} {φ : XD → Prop}
theorem fault_isC {R : PH → Prop} : IsC (XQ Γ L f g T φ R) (L 10) RX1 := fun h w => by
  obtain ⟨fs, e⟩ := xq_fault h w.1
  exact ⟨1, fs, _, e, rfl, rfl⟩
theorem node_u : ∀ s : State, (gs Γ).WarmedH s.vm → va_K (gD Γ) vwCl (tysL (gA Γ)) s → s.vm.findClass (FieldType.array (.object RX3)).toString = some (gA Γ 4) := fun s _ hk => by
  obtain ⟨kA, comp, k1, k2, k3, k4⟩ := (hk.2 4 (gA Γ 4, .object RX3) rfl).2
  exact k4
theorem n3 {b : Nat} (h : b < 3) : b = 0 ∨ b = 1 ∨ b = 2 := by omega
theorem XC.rowAt {x : XD} {tm a : Nat} {h : PH} {e0 e1 : ClassId × vp_A} (w : XC Γ L T tm x h) (ha : h a = some (.inl e0)) (hf : ∀ k, xcs Γ L x tm k ≠ none → L k ≠ a) : XC Γ L T tm x (pu h a (.inl e1)) :=
  ⟨⟨fun k y q => by rw [pu_ne _ _ (hf k (by rw [q]; exact fun z => by cases z))]; exact w.1.1 k y q, w.1.2⟩, w.2.1.kept (KN.putA _ ha) rfl, w.2.2⟩
/-- the new text's row goes into the row of texts -/
theorem x_texts {K : JC} {cc : ByteArray} {nL : Nat} {own : String} {hh : List (Nat × Nat × Nat × Nat)} {pc : Nat} {ls : List (Option Value)} {st : List Value} {cs ss a tm : Nat} {x : XD} {S : PH} {u : Nat → Option Nat} {tr : Nat → Nat} {T' : TX} (hK : Jok Γ A K cc nL own hh) (hd : decode cc pc = .ok (.aastore, 1)) (hf : ∀ k, xcs Γ L x tm k ≠ none → L k ≠ a) (h6 : tm < 6) (hnb : x.nb ≤ 7) (hS : S a = some (.inl (gA Γ 4, 3, rfA u))) (hu : ∀ w, w < 3 → u w = some (tr w)) (hT : ∀ t, t < tm → ∀ w, w < 3 → T' (nI t) w = T (nI t) w) (hn : ∀ w, w < 3 → NTe S (L 35) (tr w) (T' (nI tm) w) ∧ (T' (nI tm) w).length ≤ 160) (kk : J Γ A K (pc + 1) ls st (XC Γ (L1 L (57 + tm) a) T' (tm + 1) (xnT x tm tr)) cs ss) : J Γ A K pc ls (.ref a :: .int (nI tm) :: .ref (L 12) :: st) (XZ Γ L T tm (Sb S) x) cs ss := by
  refine j_aastA (t := 5) (u := 4) (E := .object RX3) hK rfl node_u q714 hd (P' := fun h => ∃ h0, XZ Γ L T tm (Sb S) x h0 ∧ h = pu h0 (L 12) (e12 Γ L tm a)) (fun h w => ?_) ?_
  · refine ⟨6, _, (fun t => if t < tm + 1 then some (L1 L (57 + tm) a (57 + t)) else none), _, w.1.1.at xcs_t, vp_in_nI h6 (by decide), w.2 _ _ hS, fun j hj => ?_, h, w, rfl⟩
    rw [nI_clamp (by omega)]
    show (if j = tm then some a else if j < tm then some (L (57 + j)) else none) = (if j < tm + 1 then some (L1 L (57 + tm) a (57 + j)) else none)
    by_cases e : j = tm
    · rw [if_pos e, if_pos (by omega), e, L1_s]
    · rw [if_neg e]
      by_cases e2 : j < tm
      · rw [if_pos e2, if_pos (by omega), L1_o (by omega)]
      · rw [if_neg e2, if_neg (by omega)]
  · refine J.pic (fun h w => ?_) kk
    obtain ⟨h0, w, e⟩ := w
    have ha := w.2 _ _ hS
    have h12 : h0 (L 12) = _ := w.1.1.at xcs_t
    have h31 : h0 (L 31) = _ := w.1.1.at xcs_i
    have h34 : h0 (L 34) = _ := w.1.1.at xcs_s
    have n12 : L 12 ≠ a := hf 12 (by rw [xcs_t]; exact fun z => by cases z)
    have n31 : L 31 ≠ a := hf 31 (by rw [xcs_i]; exact fun z => by cases z)
    have n34 : L 34 ≠ a := hf 34 (by rw [xcs_s]; exact fun z => by cases z)
    have d3112 : L 31 ≠ L 12 := fun z => by
      have := w.1.1.2 31 12 (by rw [xcs_i]; exact fun z => by cases z) (by rw [xcs_t]; exact fun z => by cases z) z
      omega
    have d3412 : L 34 ≠ L 12 := fun z => by
      have := w.1.1.2 34 12 (by rw [xcs_s]; exact fun z => by cases z) (by rw [xcs_t]; exact fun z => by cases z) z
      omega
    have w' := w.1.rowAt (e1 := (gA Γ 4, 3, rfA fun w => some (tr w))) ha hf
    refine ⟨_, w'.text (tr := tr) (T' := T') (a := a) (pu_self _ _ _) hf h6 hnb hT (fun z hz => NT.kept (KN.putA _ ha) _ _ _ _ (((hn z hz).1.mono w.2).to (hn z hz).2)), fun b e' q => ?_⟩
    unfold hnT at q
    rw [e]
    by_cases b34 : b = L 34
    · rw [b34, pu_self] at q
      rw [b34, pu_ne _ _ d3412]
      refine ⟨_, h34, fun H v => ?_⟩
      rw [← Option.some.inj q]
      exact pic_arr (fun j hj => by rw [L1_o (by omega)]) H v
    · rw [pu_ne _ _ b34] at q
      by_cases b31 : b = L 31
      · rw [b31, pu_self] at q
        rw [b31, pu_ne _ _ d3112]
        refine ⟨_, h31, fun H v => ?_⟩
        rw [← Option.some.inj q]
        exact pic_arr (fun j hj => by rw [L1_o (by omega)]) H v
      · rw [pu_ne _ _ b31] at q
        by_cases b12 : b = L 12
        · rw [b12, pu_self] at q
          rw [b12, pu_self]
          exact ⟨_, rfl, fun H v => by rw [← Option.some.inj q]; exact v⟩
        · rw [pu_ne _ _ b12] at q
          rw [pu_ne _ _ b12]
          by_cases ba : b = a
          · rw [ba, pu_self] at q
            rw [ba]
            exact ⟨_, ha, fun H v => by rw [← Option.some.inj q]; exact pic_arr hu H v⟩
          · rw [pu_ne _ _ ba] at q
            exact ⟨_, q, fun H v => v⟩
theorem c_XnewText {n tm : Nat} (h15 : f 15 = nI n) (hn : n ≤ 160) (h17 : f 17 = nI tm) (htm : tm < 6) : Ct Γ A yX0_newText wX0_newText 57 161 483 [.ref (L 35)] (XI Γ L f g T TT) (RI (XTe Γ (L 35) (oText f g T))) := by
  refine Ct.ofW (cc := cX0_newText) (nL := 3) (ret := (some .int)) (hh := hX0_newText) (ls := [some (.ref (L 35)), none, none]) rfl rfl rfl (nle rfl) ?_
  intro K hK hQ
  refine xi_open fun x r _ => ?_
  have h6 : ¬ f 17 = 6 := fun z => by
    rw [h17, show (6 : Int32) = nI 6 by decide, nI_eq (by omega) (by decide)] at z
    omega
  have hcl : (f 15).toNatClampNeg = n := by rw [h15, nI_clamp (by omega)]
  have htm' : (f 17).toNatClampNeg = tm := by rw [h17, nI_clamp (by omega)]
  have ob : ∀ u, txP (tp g) n = (u, none) → oText f g T = ((-100 - nI (frP (tp g) n u), upd f 15 0, g), T) := fun u e => by
    unfold oText
    rw [if_neg h6, hcl, e]
  have og : ∀ q z, txP (tp g) n = (q, some z) → oText f g T = ((f 17, upd (upd f 15 0) 17 (f 17 + 1), g), nT f T z) := fun q z e => by
    unfold oText
    rw [if_neg h6, hcl, e]
  have r0 : XR (upd f 15 0) g (xpF (xpF (xpF (xpF x 18 (f 15)) 17 0) 19 0) 23 0) := (((r.pH (k := 18) rfl).tape0).pH (k := 19) rfl).pH (k := 23) rfl
  have tb0 : TB (tp g) n 0 0 (xpF (xpF (xpF (xpF x 18 (f 15)) 17 0) 19 0) 23 0) := ⟨h15, fun k hk => r.2.2.2.2.1 (nI k) (nI_pos' (by omega)) (by rw [h15]; exact nI_lt hk (by omega)), rfl, rfl⟩
  generalize hx0 : xpF (xpF (xpF (xpF x 18 (f 15)) 17 0) 19 0) 23 0 = x0 at r0 tb0
  have cat : ∀ (a pc : Nat), covers ⟨28, 83, 86, 254⟩ pc = true → ∀ (st : List Value) (l2 : Option Value) (u cs ss e : Nat) (Z : Prop) (W : PH → Prop), cs ≤ 161 → ss ≤ 483 → (Z → txP (tp g) n = (u, none)) → (∀ h, W h → XQ Γ L (upd f 15 0) g T (BG (tp g) n u) (fun _ => True) h) → JT Γ A K pc [some (.ref (L 35)), some (.ref a), l2] st e (fun h => e = L 10 ∧ Z ∧ W h) cs ss := by
    intro a pc hcv st l2 u cs ss e Z W hc hs hZ hW h H locs arr hP hRp hLr
    obtain ⟨he, hz, hw⟩ := hP
    subst he
    have hand : J Γ A K 86 [some (.ref (L 35)), some (.ref a), l2] [.ref (L 10)] (XQ Γ L (upd f 15 0) g T (BG (tp g) n u) (fun _ => True)) cs ss := by
      refine xz_open fun xx r e => ?_
      refine j_ast2 (pc := 86) hK dX0_newText_86 (by decide) rfl ?_
      refine j_bipush (pc := 87) (v := (-100)) hK dX0_newText_87 (by decide) ?_
      refine j_aload_n (pc := 89) hK dX0_newText_89 rfl ?_
      refine xc_get (pc := 90) (k := 20) (v := nI (frP (tp g) n u)) hK (fun _ w => w.1) (by decide) rfl e q771 rfl dX0_newText_90 ?_
      refine j_isub (pc := 93) hK dX0_newText_93 ?_
      exact j_iret (pc := 94) hK hQ hc hs dX0_newText_94 (fun h w => ⟨_, rfl, L, upd f 15 0, g, T, rfl, ob u (hZ hz), (xz_close (φ := TT) (R := fun _ => True) w r trivial).1⟩)
    exact jt_catch hK ⟨28, 83, 86, 254⟩ [] rfl hcv (by decide) q392 (fault_isC.cellC hK) hand h H locs arr (hW h hw) hRp hLr
  have main : ∀ a : Nat, (∀ k, xcs Γ L x0 (f 17).toNatClampNeg k ≠ none → L k ≠ a) → J Γ A K 28 [some (.ref (L 35)), some (.ref a), none] [] (XQ Γ L (upd f 15 0) g T (TB (tp g) n 0 0) (Sb (pu (fun _ => none) a (.inl (gA Γ 4, 3, rfA fun _ => none))))) 1 3 := by
    intro a hD
    have hDD : ∀ x1, XR (upd f 15 0) g x1 → ∀ k, xcs Γ L x1 (f 17).toNatClampNeg k ≠ none → (∃ ci fs, xcs Γ L x1 (f 17).toNatClampNeg k = some (.inr (ci, fs))) ∨ L k ≠ a := fun x1 r1 k hk => by
      rcases xcs_dom (x0 := x0) (fun s hs => (r1.2.2.2.2.2.2 s hs).1.trans (r0.2.2.2.2.2.2 s hs).1.symm) hk with q | q
      · exact Or.inr (hD k q)
      · exact Or.inl q
    have last : ∀ (q : Nat) (C : Nat → List Int32) (S : PH) (tr : Nat → Nat), q ≤ n → S a = some (.inl (gA Γ 4, 3, rfA fun w => if w < 3 then some (tr w) else none)) → (∀ w, w < 3 → NTe S (L 35) (tr w) (C w) ∧ (C w).length ≤ 160) → txP (tp g) n = (q, some (C 0, C 1, C 2)) → J Γ A K 83 [some (.ref (L 35)), some (.ref a), some (.int (nI 3))] [] (XQ Γ L (upd f 15 0) g T (TK (tp g) n q 0) (Sb S)) (1 + q) (3 + 3 * q) := by
      intro q C S tr hq ha hC htx
      refine xz_open fun x1 r1 e1 => ?_
      refine J.inv (P := XZ Γ L T (upd f 15 0 17).toNatClampNeg (Sb S) x1) (p := ∀ k, xcs Γ L x1 (f 17).toNatClampNeg k ≠ none → L k ≠ a) (fun h w k hk => ?_) fun hf => ?_
      · rcases hDD x1 r1 k hk with ⟨ci, fs, q1⟩ | q1
        · intro z
          have h1 := w.1.1.at q1
          rw [z, w.2 _ _ ha] at h1
          cases h1
        · exact q1
      have hTT : ∀ t, t < tm → ∀ w, w < 3 → nT f T (C 0, C 1, C 2) (nI t) w = T (nI t) w := fun t ht w hw => by
        unfold nT
        rw [if_neg (fun z => by rw [h17, nI_eq (by omega) (by omega)] at z; omega)]
      have hTn : ∀ w, w < 3 → nT f T (C 0, C 1, C 2) (nI tm) w = C w := fun w hw => by
        unfold nT
        rw [if_pos h17.symm]
        rcases n3 hw with rfl | rfl | rfl <;> rfl
      have hnb : x1.nb ≤ 7 := r1.2.2.1.1
      rw [show (upd f 15 0 17).toNatClampNeg = tm from htm']
      rw [htm'] at hf
      refine j_goto (pc := 83) (tgt := 95) hK dX0_newText_83 (by decide) ?_
      refine j_aload_n (pc := 95) hK dX0_newText_95 rfl ?_
      refine xc_getR (pc := 96) (k := 12) hK (fun _ w => w.1) (by decide) rfl q763 rfl dX0_newText_96 ?_
      refine j_aload_n (pc := 99) hK dX0_newText_99 rfl ?_
      refine xc_get (pc := 100) (k := 13) (v := nI tm) hK (fun _ w => w.1) (by decide) rfl ((r1.1 13 rfl).trans h17) q764 rfl dX0_newText_100 ?_
      refine j_aload_n (pc := 103) hK dX0_newText_103 rfl ?_
      refine x_texts (pc := 104) (T' := nT f T (C 0, C 1, C 2)) (tr := tr) hK dX0_newText_104 hf htm hnb ha (fun w hw => if_pos hw) hTT (fun w hw => by rw [hTn w hw]; exact hC w hw) ?_
      have hL35 : L1 L (57 + tm) a 35 = L 35 := L1_o (by omega)
      rw [← hL35]
      have fin : J Γ A K 105 [some (.ref (L1 L (57 + tm) a 35)), some (.ref a), some (.int (nI 3))] [] (XC Γ (L1 L (57 + tm) a) (nT f T (C 0, C 1, C 2)) (tm + 1) (xnT x1 tm tr)) (1 + q) (3 + 3 * q) := by
        refine j_aload_n (pc := 105) hK dX0_newText_105 rfl ?_
        refine j_dup (pc := 106) hK dX0_newText_106 rfl ?_
        refine xc_get (k := 13) (v := nI tm) (pc := 107) hK (fun _ w => w) (by decide) rfl ((r1.1 13 rfl).trans h17) q764 rfl dX0_newText_107 ?_
        refine j_iconst (pc := 110) (v := 1) hK dX0_newText_110 (by decide) ?_
        refine j_iadd (pc := 111) hK dX0_newText_111 ?_
        refine xc_put (k := 13) (pc := 112) hK (by decide) rfl q764 rfl rfl rfl rfl dX0_newText_112 ?_
        refine j_aload_n (pc := 115) hK dX0_newText_115 rfl ?_
        refine xc_get (k := 13) (v := nI tm + 1) (pc := 116) hK (fun _ w => w) (by decide) rfl rfl q764 rfl dX0_newText_116 ?_
        refine j_iconst (pc := 119) (v := 1) hK dX0_newText_119 (by decide) ?_
        refine j_isub (pc := 120) hK dX0_newText_120 ?_
        exact j_iret (pc := 121) hK hQ (by omega) (by omega) dX0_newText_121 (fun h w => ⟨_, rfl, L1 L (57 + tm) a, upd (upd f 15 0) 17 (f 17 + 1), g, nT f T (C 0, C 1, C 2), hL35, by rw [og q _ htx, h17, nI_1, nI_pred], xi_close w (by show (upd (upd f 15 0) 17 (f 17 + 1) 17).toNatClampNeg = _; rw [upd_s, h17, nI_1, nI_clamp (by omega)]) (by rw [← h17]; exact r1.tm1) trivial⟩)
      exact fin
    have loop : ∀ (r i q : Nat) (C : Nat → List Int32) (S : PH) (tr : Nat → Nat), i + r = 3 → q ≤ n → gd (tp g) n q → NoX S → S a = some (.inl (gA Γ 4, 3, rfA fun w => if w < i then some (tr w) else none)) → (∀ w, w < i → NTe S (L 35) (tr w) (C w) ∧ (C w).length ≤ 160) → txP (tp g) n = stT (tp g) n r i q C → J Γ A K 34 [some (.ref (L 35)), some (.ref a), some (.int (nI i))] [] (XQ Γ L (upd f 15 0) g T (TK (tp g) n q 0) (Sb S)) (1 + q) (3 + 3 * q) := by
      intro r
      induction r with
      | zero =>
        intro i q C S tr hi hq hg hX ha hC htx
        have : i = 3 := by omega
        subst this
        refine j_iload_n (pc := 34) hK dX0_newText_34 rfl ?_
        refine j_iconst (pc := 35) (v := 3) hK dX0_newText_35 (by decide) ?_
        refine j_icmp_ge (pc := 36) (tgt := 71) hK dX0_newText_36 (by decide) (fun c36 => ?_) (fun c36 => absurd (Int32.le_refl _) c36)
        refine j_aload_n (pc := 71) hK dX0_newText_71 rfl ?_
        refine xz_open fun x1 r1 e1 => ?_
        refine xc_get (pc := 72) (k := 21) hK (fun _ w => w.1) (by decide) rfl rfl q772 rfl dX0_newText_72 ?_
        refine j_if_eq (pc := 75) (tgt := 83) hK dX0_newText_75 (by decide) (fun c75 => ?_) (fun c75 => ?_)
        · have hs : soP (tp g) n q = 0 := by
            rcases e1.2.2 with ⟨a, b⟩ | ⟨a, b, c⟩ | ⟨a, b, c, d⟩ | ⟨a, b, c, d, e⟩ | ⟨a, b, c⟩
            · exact a
            · rw [b] at c75; exact absurd c75 (by decide)
            · rw [c] at c75; exact absurd c75 (by decide)
            · rw [d] at c75; exact absurd c75 (by decide)
            · rw [b] at c75; exact absurd c75 (by decide)
          exact J.mono (P' := XQ Γ L (upd f 15 0) g T (TK (tp g) n q 0) (Sb S)) (fun h w => xz_close w r1 e1) (last q C S tr hq ha hC (htx.trans (if_pos hs)))
        · have hs : ¬ soP (tp g) n q = 0 := fun z => by
            rcases e1.2.2 with ⟨a, b⟩ | ⟨a, b, c⟩ | ⟨a, b, c, d⟩ | ⟨a, b, c, d, e⟩ | ⟨a, b, c⟩
            · exact c75 b
            · rw [a] at z; exact absurd z (by decide)
            · rw [a] at z; exact absurd z (by decide)
            · rw [a] at z; exact absurd z (by decide)
            · rw [a] at z; exact absurd z (by decide)
          refine j_aload_n (pc := 78) hK dX0_newText_78 rfl ?_
          refine xc_getR (pc := 79) (k := 10) hK (fun _ w => w.1) (by decide) rfl q760 rfl dX0_newText_79 ?_
          refine j_athrow (pc := 82) hK dX0_newText_82 ?_
          exact JT.mono (fun h w => ⟨rfl, trivial, xz_close w r1 e1⟩) (cat a 82 rfl _ _ q _ _ (L 10) True (XQ Γ L (upd f 15 0) g T (TK (tp g) n q 0) (Sb S)) (by omega) (by omega) (fun _ => htx.trans (if_neg hs)) (fun h w => ⟨xi_mono (fun _ e => e.2.1) _ w.1, trivial⟩))
      | succ r ih =>
        intro i q C S tr hi hq hg hX ha hC htx
        have hE := en_le (t := tp g) hq
        by_cases hw : isW (tp g) n q (wKeys.getD i [])
        · have hgt := en_gt hq (isW_0 hw)
          have hpr := prA_ok (t := tp g) hE.2.1
          have hlen := pr_len _ _ _ _ _ hE.2.1 hpr
          generalize hxe : prA (tp g) n (enP (tp g) n q) = x1 at hpr hlen
          obtain ⟨u, oc⟩ := x1
          have hl0 : enP (tp g) n q ≤ u := hlen.1
          have hl1 : u ≤ n := hlen.2.1
          have hE2 := en_le (t := tp g) hl1
          have hb : gd (tp g) n (enP (tp g) n q) → Ct Γ A yX0_either wX0_either 55 (u - enP (tp g) n q) (3 * (u - enP (tp g) n q)) [.ref (L 35)] (XQ Γ L (upd f 15 0) g T (TK (tp g) n (enP (tp g) n q) 0) (Sb S)) (PZ Γ L (upd f 15 0) g T (tp g) n 0 S (u, oc)) := fun h3 => (c_Xall hn _ _ (Nat.le_refl _)).1 (enP (tp g) n q) 0 S (u, oc) hE.2.1 (by omega) hX h3 hpr
          by_cases hs : isS (tp g) n u 59
          · have hgt2 := en_gt hl1 (isS_0 hs)
            refine j_iload_n (pc := 34) hK dX0_newText_34 rfl ?_
            refine j_iconst (pc := 35) (v := 3) hK dX0_newText_35 (by decide) ?_
            refine j_icmp_ge (pc := 36) (tgt := 71) hK dX0_newText_36 (by decide) (fun c36 => absurd c36 (by rw [show (3 : Int32) = nI 3 by decide]; exact nI_ge (by omega) (by decide))) (fun c36 => ?_)
            refine j_aload_n (pc := 39) hK dX0_newText_39 rfl ?_
            refine j_aload_n (pc := 40) hK dX0_newText_40 rfl ?_
            refine j_iload_n (pc := 41) hK dX0_newText_41 rfl ?_
            refine j_callV (pc := 42) hK hQ (c_XisKeyC (k := i) (fun _ e => e.2.2) (by omega) rfl) cal_X0_isKey xq_isC q529 dX0_newText_42 rfl rfl (nle rfl) (by omega) (by omega) (nle rfl) (kr_i fun r42 => ?_) kx_i
            refine J.pre fun e42 => ?_
            subst e42
            refine J.mono (xq_mono (fun _ e => e.1)) ?_
            rw [b2i_t hw]
            refine j_callV (pc := 45) hK hQ (c_XneedT hX.st' hn hE.2.1 (by decide)) cal_X0_need xq_isC q533 dX0_newText_45 rfl rfl (nle rfl) (by omega) (by omega) (nle rfl) (kr_t (kr_v ?_)) (kx_t nt_v fun e => cat a 45 rfl _ _ (enP (tp g) n q) _ _ e _ _ (by omega) (by omega) (fun z => htx.trans (stT_no (pt_bad hw (hxe.trans (by rw [bad_p0 z hpr])) (fun y => bad_s z y.1)))) (fun h w => ⟨w.1, trivial⟩))
            refine J.pre fun hgE => ?_
            refine j_aload_n (pc := 48) hK dX0_newText_48 rfl ?_
            refine j_iload_n (pc := 49) hK dX0_newText_49 rfl ?_
            refine j_aload_n (pc := 50) hK dX0_newText_50 rfl ?_
            refine j_callV (pc := 51) hK hQ (hb hgE) cal_X0_either xq_isC q537 dX0_newText_51 rfl rfl (nle rfl) (by omega) (by omega) (nle rfl) (kr_t (kr_r fun r51 => ?_)) (kx_t nt_r fun e => cat a 51 rfl _ _ u _ _ e _ _ (by omega) (by omega) (fun z => htx.trans (stT_no (pt_bad hw hxe (fun y => z.elim (fun z => by rw [show oc = none from z] at y; exact absurd y.2 (by decide)) (fun z => bad_s z y.1))))) (fun h w => w))
            refine pz_open fun c b S2 hc hgu hS2 hX2 hN2 => ?_
            subst hc
            have hlc := hlen.2.2 c rfl
            refine j_aast (pc := 54) (t := 4) (E := RX3) hK rfl dX0_newText_54 (P' := XQ Γ L (upd f 15 0) g T (TK (tp g) n u 0) (Sb (pu S2 a (.inl (gA Γ 4, 3, rfA fun w => if w < i + 1 then some (if w = i then b else tr w) else none))))) (fun h w => ?_) ?_
            · obtain ⟨ci, vs, rr, c1, c2, c3⟩ := nt_cls hN2
              refine ⟨3, _, (fun w => if w < i + 1 then some (if w = i then b else tr w) else none), ci, vs, rr, w.2 _ _ (hS2 _ _ ha), vp_in_nI (by omega) (by decide), w.2 _ _ c1, c2, c3, fun j hj => ?_, xq_row (fun x1 r1 k hk _ => hDD x1 r1 k hk) w (hS2 _ _ ha)⟩
              rw [nI_clamp (by omega)]
              show (if j = i then some b else if j < i then some (tr j) else none) = (if j < i + 1 then some (if j = i then b else tr j) else none)
              by_cases e : j = i
              · rw [if_pos e, if_pos (by omega), if_pos e]
              · rw [if_neg e, if_neg e]
                by_cases e2 : j < i
                · rw [if_pos e2, if_pos (by omega)]
                · rw [if_neg e2, if_neg (by omega)]
            have hX3 : NoX (pu S2 a (.inl (gA Γ 4, 3, rfA fun w => if w < i + 1 then some (if w = i then b else tr w) else none))) := fun b' fs z => by
              unfold pu at z
              by_cases e : b' = a
              · rw [if_pos e] at z; cases z
              · rw [if_neg e] at z; exact hX2 b' fs z
            refine j_aload_n (pc := 55) hK dX0_newText_55 rfl ?_
            refine j_aload_n (pc := 56) hK dX0_newText_56 rfl ?_
            refine j_bipush (pc := 57) (v := 59) hK dX0_newText_57 (by decide) ?_
            refine j_callV (pc := 59) hK hQ (c_XisSign (fun _ e => e.2.2) _) cal_X0_isSign xq_isC q605 dX0_newText_59 rfl rfl (nle rfl) (by omega) (by omega) (nle rfl) (kr_i fun r59 => ?_) kx_i
            refine J.pre fun e59 => ?_
            subst e59
            refine J.mono (xq_mono (fun _ e => e.1)) ?_
            rw [b2i_t hs]
            refine j_callV (pc := 62) hK hQ (c_XneedT hX3.st' hn hE2.2.1 (by decide)) cal_X0_need xq_isC q533 dX0_newText_62 rfl rfl (nle rfl) (by omega) (by omega) (nle rfl) (kr_t (kr_v ?_)) (kx_t nt_v fun e => cat a 62 rfl _ _ (enP (tp g) n u) _ _ e _ _ (by omega) (by omega) (fun z => htx.trans ((stT_go (pt_good hw hxe hs)).trans (stT_bad (by omega) z))) (fun h w => ⟨w.1, trivial⟩))
            refine J.pre fun hgE2 => ?_
            refine j_iinc2 (pc := 65) (v := 1) hK dX0_newText_65 (by decide) rfl (by decide) ?_
            refine j_goto (pc := 68) (tgt := 34) hK dX0_newText_68 (by decide) ?_
            rw [nI_1]
            refine J.wide (by omega) (by omega) (ih (i + 1) (enP (tp g) n u) (fun j => if j = i then c else C j) _ (fun w => if w = i then b else tr w) (by omega) hE2.2.1 hgE2 hX3 (pu_self _ _ _) (fun w hw' => ?_) (htx.trans (stT_go (pt_good hw hxe hs))))
            have kn : KN S2 (pu S2 a (.inl (gA Γ 4, 3, rfA fun w => if w < i + 1 then some (if w = i then b else tr w) else none))) := KN.putA _ (hS2 _ _ ha)
            by_cases e : w = i
            · rw [if_pos e, if_pos e]
              exact ⟨⟨_, NT.kept kn _ _ _ _ hN2.choose_spec⟩, by omega⟩
            · rw [if_neg e, if_neg e]
              obtain ⟨q1, q2⟩ := hC w (by omega)
              exact ⟨⟨_, NT.kept kn _ _ _ _ (q1.mono hS2).choose_spec⟩, q2⟩
          · skip
            refine j_iload_n (pc := 34) hK dX0_newText_34 rfl ?_
            refine j_iconst (pc := 35) (v := 3) hK dX0_newText_35 (by decide) ?_
            refine j_icmp_ge (pc := 36) (tgt := 71) hK dX0_newText_36 (by decide) (fun c36 => absurd c36 (by rw [show (3 : Int32) = nI 3 by decide]; exact nI_ge (by omega) (by decide))) (fun c36 => ?_)
            refine j_aload_n (pc := 39) hK dX0_newText_39 rfl ?_
            refine j_aload_n (pc := 40) hK dX0_newText_40 rfl ?_
            refine j_iload_n (pc := 41) hK dX0_newText_41 rfl ?_
            refine j_callV (pc := 42) hK hQ (c_XisKeyC (k := i) (fun _ e => e.2.2) (by omega) rfl) cal_X0_isKey xq_isC q529 dX0_newText_42 rfl rfl (nle rfl) (by omega) (by omega) (nle rfl) (kr_i fun r42 => ?_) kx_i
            refine J.pre fun e42 => ?_
            subst e42
            refine J.mono (xq_mono (fun _ e => e.1)) ?_
            rw [b2i_t hw]
            refine j_callV (pc := 45) hK hQ (c_XneedT hX.st' hn hE.2.1 (by decide)) cal_X0_need xq_isC q533 dX0_newText_45 rfl rfl (nle rfl) (by omega) (by omega) (nle rfl) (kr_t (kr_v ?_)) (kx_t nt_v fun e => cat a 45 rfl _ _ (enP (tp g) n q) _ _ e _ _ (by omega) (by omega) (fun z => htx.trans (stT_no (pt_bad hw (hxe.trans (by rw [bad_p0 z hpr])) (fun y => bad_s z y.1)))) (fun h w => ⟨w.1, trivial⟩))
            refine J.pre fun hgE => ?_
            refine j_aload_n (pc := 48) hK dX0_newText_48 rfl ?_
            refine j_iload_n (pc := 49) hK dX0_newText_49 rfl ?_
            refine j_aload_n (pc := 50) hK dX0_newText_50 rfl ?_
            refine j_callV (pc := 51) hK hQ (hb hgE) cal_X0_either xq_isC q537 dX0_newText_51 rfl rfl (nle rfl) (by omega) (by omega) (nle rfl) (kr_t (kr_r fun r51 => ?_)) (kx_t nt_r fun e => cat a 51 rfl _ _ u _ _ e _ _ (by omega) (by omega) (fun z => htx.trans (stT_no (pt_bad hw hxe (fun y => z.elim (fun z => by rw [show oc = none from z] at y; exact absurd y.2 (by decide)) (fun z => bad_s z y.1))))) (fun h w => w))
            refine pz_open fun c b S2 hc hgu hS2 hX2 hN2 => ?_
            subst hc
            have hlc := hlen.2.2 c rfl
            refine j_aast (pc := 54) (t := 4) (E := RX3) hK rfl dX0_newText_54 (P' := XQ Γ L (upd f 15 0) g T (TK (tp g) n u 0) (Sb (pu S2 a (.inl (gA Γ 4, 3, rfA fun w => if w < i + 1 then some (if w = i then b else tr w) else none))))) (fun h w => ?_) ?_
            · obtain ⟨ci, vs, rr, c1, c2, c3⟩ := nt_cls hN2
              refine ⟨3, _, (fun w => if w < i + 1 then some (if w = i then b else tr w) else none), ci, vs, rr, w.2 _ _ (hS2 _ _ ha), vp_in_nI (by omega) (by decide), w.2 _ _ c1, c2, c3, fun j hj => ?_, xq_row (fun x1 r1 k hk _ => hDD x1 r1 k hk) w (hS2 _ _ ha)⟩
              rw [nI_clamp (by omega)]
              show (if j = i then some b else if j < i then some (tr j) else none) = (if j < i + 1 then some (if j = i then b else tr j) else none)
              by_cases e : j = i
              · rw [if_pos e, if_pos (by omega), if_pos e]
              · rw [if_neg e, if_neg e]
                by_cases e2 : j < i
                · rw [if_pos e2, if_pos (by omega)]
                · rw [if_neg e2, if_neg (by omega)]
            have hX3 : NoX (pu S2 a (.inl (gA Γ 4, 3, rfA fun w => if w < i + 1 then some (if w = i then b else tr w) else none))) := fun b' fs z => by
              unfold pu at z
              by_cases e : b' = a
              · rw [if_pos e] at z; cases z
              · rw [if_neg e] at z; exact hX2 b' fs z
            refine j_aload_n (pc := 55) hK dX0_newText_55 rfl ?_
            refine j_aload_n (pc := 56) hK dX0_newText_56 rfl ?_
            refine j_bipush (pc := 57) (v := 59) hK dX0_newText_57 (by decide) ?_
            refine j_callV (pc := 59) hK hQ (c_XisSign (fun _ e => e.2.2) _) cal_X0_isSign xq_isC q605 dX0_newText_59 rfl rfl (nle rfl) (by omega) (by omega) (nle rfl) (kr_i fun r59 => ?_) kx_i
            refine J.pre fun e59 => ?_
            subst e59
            rw [b2i_f hs]
            refine j_callV (pc := 62) hK hQ (c_XneedF) cal_X0_need xq_isC q533 dX0_newText_62 rfl rfl (nle rfl) (by omega) (by omega) (nle rfl) (kr_t (kr_v ?_)) (kx_t nt_v fun e => JT.mono (fun h w => ⟨w.1, trivial, w.2⟩) (cat a 62 rfl _ _ u _ _ e True (XQ Γ L (upd f 15 0) g T (TK (tp g) n u 0) (Sb (pu S2 a (.inl (gA Γ 4, 3, rfA fun w => if w < i + 1 then some (if w = i then b else tr w) else none))))) (by omega) (by omega) (fun _ => htx.trans (stT_no (pt_bad hw hxe (fun y => hs y.1)))) (fun h w => ⟨xi_mono (fun _ e => e.2.1) _ w.1, trivial⟩)))
            exact J.void (fun _ z => z)
        · skip
          refine j_iload_n (pc := 34) hK dX0_newText_34 rfl ?_
          refine j_iconst (pc := 35) (v := 3) hK dX0_newText_35 (by decide) ?_
          refine j_icmp_ge (pc := 36) (tgt := 71) hK dX0_newText_36 (by decide) (fun c36 => absurd c36 (by rw [show (3 : Int32) = nI 3 by decide]; exact nI_ge (by omega) (by decide))) (fun c36 => ?_)
          refine j_aload_n (pc := 39) hK dX0_newText_39 rfl ?_
          refine j_aload_n (pc := 40) hK dX0_newText_40 rfl ?_
          refine j_iload_n (pc := 41) hK dX0_newText_41 rfl ?_
          refine j_callV (pc := 42) hK hQ (c_XisKeyC (k := i) (fun _ e => e.2.2) (by omega) rfl) cal_X0_isKey xq_isC q529 dX0_newText_42 rfl rfl (nle rfl) (by omega) (by omega) (nle rfl) (kr_i fun r42 => ?_) kx_i
          refine J.pre fun e42 => ?_
          subst e42
          rw [b2i_f hw]
          refine j_callV (pc := 45) hK hQ (c_XneedF) cal_X0_need xq_isC q533 dX0_newText_45 rfl rfl (nle rfl) (by omega) (by omega) (nle rfl) (kr_t (kr_v ?_)) (kx_t nt_v fun e => JT.mono (fun h w => ⟨w.1, trivial, w.2⟩) (cat a 45 rfl _ _ q _ _ e True (XQ Γ L (upd f 15 0) g T (TK (tp g) n q 0) (Sb S)) (by omega) (by omega) (fun _ => htx.trans (stT_no (pt_no hw))) (fun h w => ⟨xi_mono (fun _ e => e.2.1) _ w.1, trivial⟩)))
          exact J.void (fun _ z => z)
    have hX0 : NoX (pu (fun _ => none) a (.inl (gA Γ 4, 3, rfA fun _ => none))) := fun b' fs z => by
      unfold pu at z
      by_cases e : b' = a
      · rw [if_pos e] at z; cases z
      · rw [if_neg e] at z; cases z
    refine j_aload_n (pc := 28) hK dX0_newText_28 rfl ?_
    refine j_callV (pc := 29) hK hQ (c_Xnext hX0.st' hn (Nat.zero_le _)) cal_X0_next xq_isC q395 dX0_newText_29 rfl rfl (nle rfl) (nle rfl) (nle rfl) (nle rfl) (kr_t (kr_v ?_)) (kx_t nt_v fun e => cat a 29 rfl _ _ 0 _ _ e _ _ (nle rfl) (nle rfl) (fun z => (stT_ok _ _).trans (stT_bad rfl z)) (fun h w => ⟨w.1, trivial⟩))
    refine J.pre fun hg0 => ?_
    refine j_iconst (pc := 32) (v := 0) hK dX0_newText_32 (by decide) ?_
    refine j_ist2 (pc := 33) hK dX0_newText_33 (by decide) rfl ?_
    exact J.wide (nle rfl) (nle rfl) (loop 3 0 0 (fun _ => []) _ (fun _ => 0) rfl (Nat.zero_le _) hg0 hX0 (pu_self _ _ _) (fun w hw => by omega) (stT_ok _ _))
  refine j_aload_n (pc := 0) hK dX0_newText_0 rfl ?_
  refine j_aload_n (pc := 1) hK dX0_newText_1 rfl ?_
  refine xc_get (pc := 2) (k := 17) (v := f 15) hK (fun _ w => w) (by decide) rfl (r.1 17 rfl) q768 rfl dX0_newText_2 ?_
  refine xc_put (pc := 5) (k := 18) hK (by decide) rfl q769 rfl rfl rfl rfl dX0_newText_5 ?_
  refine j_aload_n (pc := 8) hK dX0_newText_8 rfl ?_
  refine j_iconst (pc := 9) (v := 0) hK dX0_newText_9 (by decide) ?_
  refine xc_put (pc := 10) (k := 17) hK (by decide) rfl q768 rfl rfl rfl rfl dX0_newText_10 ?_
  refine j_aload_n (pc := 13) hK dX0_newText_13 rfl ?_
  refine j_iconst (pc := 14) (v := 0) hK dX0_newText_14 (by decide) ?_
  refine xc_put (pc := 15) (k := 19) hK (by decide) rfl q770 rfl rfl rfl rfl dX0_newText_15 ?_
  refine j_aload_n (pc := 18) hK dX0_newText_18 rfl ?_
  refine j_iconst (pc := 19) (v := 0) hK dX0_newText_19 (by decide) ?_
  refine xc_put (pc := 20) (k := 23) hK (by decide) rfl q774 rfl rfl rfl rfl dX0_newText_20 ?_
  refine j_iconst (pc := 23) (v := 3) hK dX0_newText_23 (by decide) ?_
  rw [hx0]
  refine j_anew (pc := 24) (t := 4) (N := 3) (C := RX3) hK hQ q393 q394 rfl (by decide) (by decide) (by decide) (nle rfl) (nle rfl) dX0_newText_24 (fun a => ?_)
  refine j_ast1 (pc := 27) hK dX0_newText_27 (by decide) rfl ?_
  refine J.inv (p := ∀ k, xcs Γ L x0 (f 17).toNatClampNeg k ≠ none → L k ≠ a) (fun h w k hk => ?_) fun hD => ?_
  · obtain ⟨h0, w, ha, e⟩ := w
    cases e1 : xcs Γ L x0 (f 17).toNatClampNeg k with
    | none => exact absurd e1 hk
    | some y =>
      intro z
      have := w.1.1 k y e1
      rw [z, ha] at this
      cases this
  · refine J.mono (fun h w => ?_) (main a hD)
    obtain ⟨h0, w, ha, e⟩ := w
    subst e
    refine ⟨(xi_close (f := upd f 15 0) w rfl r0 tb0).fresh _ ha, fun b y q => ?_⟩
    unfold pu at q ⊢
    by_cases e : b = a
    · rw [if_pos e] at q ⊢; exact q
    · rw [if_neg e] at q; cases q
end P80
