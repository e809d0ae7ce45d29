/-! the reference reads: text -/
set_option maxRecDepth 100000
section Y19
variable {Γ : Gam} {A : Nat → Prop} {L : Nat → Nat} {f : Nat → Int32} {g : Nat → Int32 → Int32} {T : TX} {B : Int32 → Int32} {n tx m : Nat} {p : Nat}
/-- the new text is among the texts -/
theorem YT.add {f1 : Nat → Int32} {g1 : Nat → Int32 → Int32} {a b c : List Int32} (h17 : f 17 = nI tx) (htx : tx < 6) (he : f1 17 = f 17) (ht : YT f1 g1 T) (hcode : ∀ i, i < (a ++ b ++ c).length → (a ++ b ++ c)[i]? = some (g1 19 (170 * f 17 + nI i))) (hlen : (a ++ b ++ c).length ≤ 160) (h0 : g1 20 (nI (4 * tx)) = nI 0) (h1 : g1 20 (nI (4 * tx + 1)) = nI a.length) (h2 : g1 20 (nI (4 * tx + 2)) = nI (a ++ b).length) (h3 : g1 20 (nI (4 * tx + 3)) = nI (a ++ b ++ c).length) {f2 : Nat → Int32} (h2' : f2 17 = f 17 + 1) : YT f2 g1 (nT f T (a, b, c)) := by
  intro t t0 t1
  rw [h2', h17, nI_1] at t1
  obtain ⟨k, hk, rfl⟩ := nI_of (x := t) (Int32.not_lt.mpr t0)
  have hk2 : k < tx + 1 := (nI_ltI hk (by omega)).mp t1
  by_cases e : k = tx
  · subst e
    have e4 : ∀ w, 4 * nI k + nI w = nI (4 * k + w) := fun w => by rw [show (4 : Int32) = nI 4 by decide, pk_mul, nI_add]
    have eT : ∀ w, nT f T (a, b, c) (nI k) w = if w = 0 then a else if w = 1 then b else c := fun w => if_pos h17.symm
    simp only [List.length_append] at hlen hcode h2 h3
    have key : ∀ (u v d : List Int32), a ++ b ++ c = u ++ v ++ d → ∀ i, i < v.length → v[i]? = some (g1 19 (170 * nI k + nI (u.length + i))) := by
      intro u v d hu i hi
      have hl : u.length + v.length + d.length = a.length + b.length + c.length := by
        have := congrArg List.length hu
        simp only [List.length_append] at this
        omega
      have := hcode (u.length + i) (by omega)
      rw [hu, h17, List.append_assoc, List.getElem?_append_right (by omega), List.getElem?_append_left (by omega), Nat.add_sub_cancel_left] at this
      exact this
    refine ⟨fun w => if w = 0 then 0 else if w = 1 then a.length else if w = 2 then a.length + b.length else a.length + b.length + c.length, fun w hw => ?_, fun w hw => ?_⟩
    · rw [e4]
      match w, hw with
      | 0, _ => exact ⟨h0, Nat.zero_le _⟩
      | 1, _ => exact ⟨h1, by show a.length ≤ 160; omega⟩
      | 2, _ => exact ⟨h2, by show a.length + b.length ≤ 160; omega⟩
      | 3, _ => exact ⟨h3, hlen⟩
    · rw [eT]
      match w, hw with
      | 0, _ => exact ⟨by show 0 + a.length = a.length; omega, key [] a (b ++ c) (by simp)⟩
      | 1, _ => exact ⟨rfl, key a b c rfl⟩
      | 2, _ => exact ⟨rfl, fun i hi => by
          have := key (a ++ b) c [] (by simp) i hi
          rw [List.length_append] at this
          exact this⟩
  · obtain ⟨w, a1, a2⟩ := ht (nI k) t0 (by rw [he, h17]; exact (nI_ltI hk (by omega)).mpr (by omega))
    have eT : ∀ w, nT f T (a, b, c) (nI k) w = T (nI k) w := fun w => if_neg (fun z => by rw [h17, nI_eq hk (by omega)] at z; exact e z)
    refine ⟨w, a1, fun z hz => ?_⟩
    rw [eT]
    exact a2 z hz
def YTo (Γ : Gam) (L : Nat → Nat) (x : R3 × TX) (r : Int32) (h : PH) : Prop := ∃ f' g' T', x = ((r, f', g'), T') ∧ YI Γ L f' g' T' h
theorem tx_bad1 {t : Nat → Int32} {q : Nat} (h1 : ptP t n wPrice 0 = (q, none)) : txP t n = (q, none) := by unfold txP; rw [h1]
theorem tx_bad2 {t : Nat → Int32} {q q2 : Nat} {a : List Int32} (h1 : ptP t n wPrice 0 = (q, some a)) (h2 : ptP t n wHears q = (q2, none)) : txP t n = (q2, none) := by unfold txP; rw [h1]; simp only; rw [h2]
theorem tx_bad3 {t : Nat → Int32} {q q2 q3 : Nat} {a b : List Int32} (h1 : ptP t n wPrice 0 = (q, some a)) (h2 : ptP t n wHears q = (q2, some b)) (h3 : ptP t n wComes q2 = (q3, none)) : txP t n = (q3, none) := by unfold txP; rw [h1]; simp only; rw [h2]; simp only; rw [h3]
theorem tx_end {t : Nat → Int32} {q q2 q3 : Nat} {a b c : List Int32} (h1 : ptP t n wPrice 0 = (q, some a)) (h2 : ptP t n wHears q = (q2, some b)) (h3 : ptP t n wComes q2 = (q3, some c)) : txP t n = if soP t n q3 = 0 then (q3, some (a, b, c)) else (q3, none) := by unfold txP; rw [h1]; simp only; rw [h2]; simp only; rw [h3]
theorem oT_bad {q : Nat} (h6 : ¬ f 17 = 6) (hn : f 15 = nI n) (hn2 : n ≤ 160) (h : txP (tp g) n = (q, none)) : oText f g T = ((-100 - nI (frP (tp g) n q), upd f 15 0, g), T) := by
  unfold oText
  rw [if_neg h6, hn, nI_clamp (by omega), h]
theorem oT_ok {q : Nat} {x : List Int32 × List Int32 × List Int32} (h6 : ¬ f 17 = 6) (hn : f 15 = nI n) (hn2 : n ≤ 160) (h : txP (tp g) n = (q, some x)) : oText f g T = ((f 17, upd (upd f 15 0) 17 (f 17 + 1), g), nT f T x) := by
  unfold oText
  rw [if_neg h6, hn, nI_clamp (by omega), h]
theorem c_Ytext (hn : f 15 = nI n) (hn2 : n ≤ 160) (h17 : f 17 = nI tx) (htx : tx ≤ 6) : Ct Γ A yX8_text wX8_text 49 0 0 [.ref (L 40)] (YI Γ L f g T) (RI (YTo Γ L (oText f g T))) := by
  refine Ct.of (cc := cX8_text) (nL := 2) (ret := (some .int)) (ls := [some (.ref (L 40)), none]) rfl rfl rfl (nle rfl) ?_
  intro K hK hQ
  obtain ⟨a236, v236, hev236, hS236⟩ := ls_X8_236 hK.g
  obtain ⟨a242, v242, hev242, hS242⟩ := ls_X8_242 hK.g
  obtain ⟨a244, v244, hev244, hS244⟩ := ls_X8_244 hK.g
  refine yi_open fun f0 g0 he0 ht0 => ?_
  have e17 : f0 17 = f 17 := (he0 17 rfl).1
  by_cases h6 : f 17 = 6
  · skip
    refine j_aload_n (pc := 0) hK dX8_text_0 rfl ?_
    refine y_getI (pc := 1) (k := 17) hK (by decide) rfl q1257 rfl dX8_text_1 ?_
    refine j_bipush (pc := 4) (v := 6) hK dX8_text_4 (by decide) ?_
    refine j_icmp_ne (pc := 6) (tgt := 12) hK dX8_text_6 (by decide) (fun c6 => absurd (by rw [e17]; exact h6) c6) (fun c6 => ?_)
    refine j_bipush (pc := 9) (v := (-4)) hK dX8_text_9 (by decide) ?_
    exact j_iret (pc := 11) hK hQ (nle rfl) (nle rfl) dX8_text_11 (fun h w => ⟨_, rfl, _, _, _, by unfold oText; rw [if_pos h6], _, _, w, he0, ht0⟩)
  · have htx6 : tx < 6 := by
      have : ¬ tx = 6 := fun z => h6 (by rw [h17, z]; rfl)
      omega
    have fail : ∀ q, txP (tp g) n = (q, none) → J Γ A K 72 [some (.ref (L 40)), none] [] (YBB Γ L f g T n q) 0 0 := by
      intro q hq
      refine J.ex fun B1 => J.ex fun c1 => J.ex fun o1 => yp_open fun f1 g1 hc ht => ?_
      refine j_iconst (pc := 72) (v := 0) hK dX8_text_72 (by decide) ?_
      refine j_ist1 (pc := 73) hK dX8_text_73 (by decide) rfl ?_
      refine j_aload_n (pc := 74) hK dX8_text_74 rfl ?_
      refine j_iconst (pc := 75) (v := 0) hK dX8_text_75 (by decide) ?_
      refine y_putI (pc := 76) (k := 15) hK (by decide) rfl q1255 rfl rfl rfl rfl dX8_text_76 ?_
      refine j_iload_n (pc := 79) hK dX8_text_79 rfl ?_
      refine j_if_ne (pc := 80) (tgt := 91) hK dX8_text_80 (by decide) (fun c80 => absurd (by decide) c80) (fun c80 => ?_)
      refine j_bipush (pc := 83) (v := (-100)) hK dX8_text_83 (by decide) ?_
      refine j_aload_n (pc := 85) hK dX8_text_85 rfl ?_
      refine y_getI (pc := 86) (k := 23) hK (by decide) rfl q1263 rfl dX8_text_86 ?_
      refine j_isub (pc := 89) hK dX8_text_89 ?_
      exact j_iret (pc := 90) hK hQ (nle rfl) (nle rfl) dX8_text_90 (fun h w => ⟨_, rfl, _, _, _, by rw [oT_bad h6 hn hn2 hq, ← ht.2.1]; rfl, _, _, w, hc.1.putF 15 0, hc.2.1.putF (by decide) 0⟩)
    have good : ∀ (B0 : Int32 → Int32) (a b c : List Int32) (q3 : Nat), (a ++ b ++ c).length ≤ 160 → txP (tp g) n = (if soP (tp g) n q3 = 0 then (q3, some (a, b, c)) else (q3, none)) → J Γ A K 61 [some (.ref (L 40)), none] [] (YP Γ L f g T n (bB (bB (bB B0 (nI (4 * tx + 0)) (nI ([] : List Int32).length)) (nI (4 * tx + 1)) (nI ([] ++ a).length)) (nI (4 * tx + 2)) (nI ([] ++ a ++ b).length)) ([] ++ a ++ b ++ c) 0 q3) 0 0 := by
      intro B0 a b c q3 hlen htx3
      refine yp_open fun f1 g1 hc ht => ?_
      have e17' : f1 17 = f 17 := (hc.1 17 rfl).1
      have ei : 4 * f1 17 + 3 = nI (4 * tx + 3) := by rw [e17', h17, show (4 : Int32) = nI 4 by decide, show (3 : Int32) = nI 3 by decide, pk_mul, nI_add]
      refine j_aload_n (pc := 61) hK dX8_text_61 rfl ?_
      refine y_getI (pc := 62) (k := 24) hK (by decide) rfl q1264 rfl dX8_text_62 ?_
      refine j_if_ne (pc := 65) (tgt := 72) hK dX8_text_65 (by decide) (fun c65 => ?_) (fun c65 => ?_)
      · exact J.mono (fun h w => ⟨_, _, _, _, _, w, hc, ht⟩) (fail q3 (by rw [htx3, if_neg (by rw [← ht.2.2.1]; exact c65)]))
      · rw [if_pos (by rw [← ht.2.2.1]; exact c65)] at htx3
        refine j_iconst (pc := 68) (v := 1) hK dX8_text_68 (by decide) ?_
        refine j_goto (pc := 69) (tgt := 73) hK dX8_text_69 (by decide) ?_
        refine j_ist1 (pc := 73) hK dX8_text_73 (by decide) rfl ?_
        refine j_aload_n (pc := 74) hK dX8_text_74 rfl ?_
        refine j_iconst (pc := 75) (v := 0) hK dX8_text_75 (by decide) ?_
        refine y_putI (pc := 76) (k := 15) hK (by decide) rfl q1255 rfl rfl rfl rfl dX8_text_76 ?_
        refine j_iload_n (pc := 79) hK dX8_text_79 rfl ?_
        refine j_if_ne (pc := 80) (tgt := 91) hK dX8_text_80 (by decide) (fun c80 => ?_) (fun c80 => absurd c80 (by decide))
        refine j_aload_n (pc := 91) hK dX8_text_91 rfl ?_
        refine y_getR (pc := 92) (k := 20) hK (by decide) rfl q1260 rfl dX8_text_92 ?_
        refine j_iconst (pc := 95) (v := 4) hK dX8_text_95 (by decide) ?_
        refine j_aload_n (pc := 96) hK dX8_text_96 rfl ?_
        refine y_getI (pc := 97) (k := 17) hK (by decide) rfl q1257 rfl dX8_text_97 ?_
        refine j_imul (pc := 100) hK dX8_text_100 ?_
        refine j_iconst (pc := 101) (v := 3) hK dX8_text_101 (by decide) ?_
        refine j_iadd (pc := 102) hK dX8_text_102 ?_
        refine j_aload_n (pc := 103) hK dX8_text_103 rfl ?_
        refine y_getI (pc := 104) (k := 21) hK (by decide) rfl q1261 rfl dX8_text_104 ?_
        refine y_ast (pc := 107) (k := 20) hK rfl (by show vp_in (4 * f1 17 + 3) 24; rw [ei]; exact vp_in_nI (show _ < 24 by omega) (by decide)) dX8_text_107 ?_
        refine j_aload_n (pc := 108) hK dX8_text_108 rfl ?_
        refine j_dup (pc := 109) hK dX8_text_109 rfl ?_
        refine y_getI (pc := 110) (k := 17) hK (by decide) rfl q1257 rfl dX8_text_110 ?_
        refine j_dup_x1 (pc := 113) hK dX8_text_113 rfl rfl ?_
        refine j_iconst (pc := 114) (v := 1) hK dX8_text_114 (by decide) ?_
        refine j_iadd (pc := 115) hK dX8_text_115 ?_
        refine y_putI (pc := 116) (k := 17) hK (by decide) rfl q1257 rfl rfl rfl rfl dX8_text_116 ?_
        have hfin : ∀ h, YW Γ L (upd (upd f1 15 0) 17 (f1 17 + 1)) (ug g1 20 (4 * f1 17 + 3) (f1 21)) h → YI Γ L (upd (upd f 15 0) 17 (f 17 + 1)) g (nT f T (a, b, c)) h := by
          intro h w
          have hB := hc.2.2.2.2.2
          refine ⟨_, _, w, ?_, ?_⟩
          · rw [e17']
            exact ((hc.1.putF 15 0).putF 17 _).junkA rfl _ _
          · refine YT.add h17 htx6 (f1 := f1) e17' ?_ ?_ hlen ?_ ?_ ?_ ?_ (by show f1 17 + 1 = _; rw [e17'])
            · have := (hc.beg h17 htx6 (which := 3) (by omega) (x := f1 21) ei).2.1
              exact this
            · intro i hi
              rw [ug_k g1 _ _ (by decide)]
              exact hc.2.2.2.2.1 i hi
            · rw [ei, ug_i g1 20 _ (fun z => by rw [nI_eq (by omega) (by omega)] at z; omega), hB]
              unfold bB
              rw [if_neg (fun z => by rw [nI_eq (by omega) (by omega)] at z; omega), if_neg (fun z => by rw [nI_eq (by omega) (by omega)] at z; omega), if_pos (show nI (4 * tx) = nI (4 * tx + 0) from rfl)]
              rfl
            · rw [ei, ug_i g1 20 _ (fun z => by rw [nI_eq (by omega) (by omega)] at z; omega), hB]
              unfold bB
              rw [if_neg (fun z => by rw [nI_eq (by omega) (by omega)] at z; omega), if_pos rfl]
              rfl
            · rw [ei, ug_i g1 20 _ (fun z => by rw [nI_eq (by omega) (by omega)] at z; omega), hB]
              unfold bB
              rw [if_pos rfl]
              rfl
            · rw [ei, ug_s, hc.2.2.2.1]
              rfl
        exact j_iret (pc := 119) hK hQ (nle rfl) (nle rfl) dX8_text_119 (fun h w => ⟨_, rfl, _, _, _, by rw [oT_ok h6 hn hn2 htx3]; show _ = ((f1 17, _, _), _); rw [e17'], hfin h w⟩)
    have k1 := pt_ok (t := tp g) (w := wPrice) (p := 0) (Nat.zero_le n)
    have hb1 := c_Ypart (Γ := Γ) (A := A) (g := g) (L := L) (T := T) (B := fun j => g0 20 j) (c0 := []) (p := 0) 0 (by decide) hS236 (by decide) hn hn2 h17 htx6 (Nat.zero_le _) (Nat.le_refl _)
    match h1 : ptP (tp g) n wPrice 0, k1, hb1 with
    | (q, none), k1, hb1 =>
      have hb1 : Ct Γ A yX8_part wX8_part 48 0 0 [.ref (L 40), .ref a236, .int 0] (YP Γ L f g T n (fun j => g0 20 j) [] 0 0) (RI fun r h => r = b2i False ∧ YBB Γ L f g T n q h) := hb1
      refine j_aload_n (pc := 0) hK dX8_text_0 rfl ?_
      refine y_getI (pc := 1) (k := 17) hK (by decide) rfl q1257 rfl dX8_text_1 ?_
      refine j_bipush (pc := 4) (v := 6) hK dX8_text_4 (by decide) ?_
      refine j_icmp_ne (pc := 6) (tgt := 12) hK dX8_text_6 (by decide) (fun c6 => ?_) (fun c6 => absurd c6 (by rw [e17]; exact h6))
      refine j_aload_n (pc := 12) hK dX8_text_12 rfl ?_
      refine j_iconst (pc := 13) (v := 0) hK dX8_text_13 (by decide) ?_
      refine y_putI (pc := 14) (k := 22) hK (by decide) rfl q1262 rfl rfl rfl rfl dX8_text_14 ?_
      refine j_aload_n (pc := 17) hK dX8_text_17 rfl ?_
      refine j_iconst (pc := 18) (v := 0) hK dX8_text_18 (by decide) ?_
      refine y_putI (pc := 19) (k := 26) hK (by decide) rfl q1266 rfl rfl rfl rfl dX8_text_19 ?_
      refine j_aload_n (pc := 22) hK dX8_text_22 rfl ?_
      refine j_iconst (pc := 23) (v := 0) hK dX8_text_23 (by decide) ?_
      refine y_putI (pc := 24) (k := 21) hK (by decide) rfl q1261 rfl rfl rfl rfl dX8_text_24 ?_
      refine j_aload_n (pc := 27) hK dX8_text_27 rfl ?_
      refine J.mono (P' := YN Γ L f g T (fun j => g0 20 j) [] 0 0) (fun h w => ⟨_, _, w, ⟨((he0.junkF (k := 22) rfl 0).junkF (k := 26) rfl 0).junkF (k := 21) rfl 0, ((ht0.putF (k := 22) (by decide) 0).putF (k := 26) (by decide) 0).putF (k := 21) (by decide) 0, rfl, rfl, fun i hi => absurd hi (Nat.not_lt_zero _), fun _ => rfl⟩, rfl⟩) ?_
      refine j_callV (pc := 28) hK hQ (c_Ynext hn hn2 (Nat.zero_le _)) cal_X8_next yn_isC q1174 dX8_text_28 rfl rfl (nle rfl) (nle rfl) (nle rfl) (nle rfl) (kr_v ?_) kx_v
      refine j_aload_n (pc := 31) hK dX8_text_31 rfl ?_
      refine j_ldcs (pc := 32) hK q1184 hev236 dX8_text_32 ?_
      refine j_iconst (pc := 34) (v := 0) hK dX8_text_34 (by decide) ?_
      refine j_callV (pc := 35) hK hQ (hb1) cal_X8_part yp_isC q1185 dX8_text_35 rfl rfl (nle rfl) (nle rfl) (nle rfl) (nle rfl) (kr_i fun r35 => ?_) kx_i
      refine J.pre fun e35 => ?_
      subst e35
      refine j_if_eq_b (pc := 38) (tgt := 72) hK dX8_text_38 (by decide) (fun c38 => ?_) (fun c38 => absurd c38 (fun z => z))
      exact fail q (tx_bad1 h1)
    | (q, some a), k1, hb1 =>
      have l1 := (k1.2 a rfl).1
      have m1 := k1.1
      simp only at l1 m1
      have hb1 : Ct Γ A yX8_part wX8_part 48 0 0 [.ref (L 40), .ref a236, .int 0] (YP Γ L f g T n (fun j => g0 20 j) [] 0 0) (RI fun r h => r = b2i True ∧ YP Γ L f g T n (bB (fun j => g0 20 j) (nI (4 * tx + 0)) (nI ([] : List Int32).length)) ([] ++ a) 0 q h) := hb1
      have k2 := pt_ok (t := tp g) (w := wHears) m1
      have hb2 := c_Ypart (Γ := Γ) (A := A) (g := g) (L := L) (T := T) (B := bB (fun j => g0 20 j) (nI (4 * tx + 0)) (nI ([] : List Int32).length)) (c0 := [] ++ a) 1 (by decide) hS242 (by decide) hn hn2 h17 htx6 m1 (by simp; omega)
      match h2 : ptP (tp g) n wHears q, k2, hb2 with
      | (q2, none), k2, hb2 =>
        have hb2 : Ct Γ A yX8_part wX8_part 48 0 0 [.ref (L 40), .ref a242, .int 1] (YP Γ L f g T n (bB (fun j => g0 20 j) (nI (4 * tx + 0)) (nI ([] : List Int32).length)) ([] ++ a) 0 q) (RI fun r h => r = b2i False ∧ YBB Γ L f g T n q2 h) := hb2
        refine j_aload_n (pc := 0) hK dX8_text_0 rfl ?_
        refine y_getI (pc := 1) (k := 17) hK (by decide) rfl q1257 rfl dX8_text_1 ?_
        refine j_bipush (pc := 4) (v := 6) hK dX8_text_4 (by decide) ?_
        refine j_icmp_ne (pc := 6) (tgt := 12) hK dX8_text_6 (by decide) (fun c6 => ?_) (fun c6 => absurd c6 (by rw [e17]; exact h6))
        refine j_aload_n (pc := 12) hK dX8_text_12 rfl ?_
        refine j_iconst (pc := 13) (v := 0) hK dX8_text_13 (by decide) ?_
        refine y_putI (pc := 14) (k := 22) hK (by decide) rfl q1262 rfl rfl rfl rfl dX8_text_14 ?_
        refine j_aload_n (pc := 17) hK dX8_text_17 rfl ?_
        refine j_iconst (pc := 18) (v := 0) hK dX8_text_18 (by decide) ?_
        refine y_putI (pc := 19) (k := 26) hK (by decide) rfl q1266 rfl rfl rfl rfl dX8_text_19 ?_
        refine j_aload_n (pc := 22) hK dX8_text_22 rfl ?_
        refine j_iconst (pc := 23) (v := 0) hK dX8_text_23 (by decide) ?_
        refine y_putI (pc := 24) (k := 21) hK (by decide) rfl q1261 rfl rfl rfl rfl dX8_text_24 ?_
        refine j_aload_n (pc := 27) hK dX8_text_27 rfl ?_
        refine J.mono (P' := YN Γ L f g T (fun j => g0 20 j) [] 0 0) (fun h w => ⟨_, _, w, ⟨((he0.junkF (k := 22) rfl 0).junkF (k := 26) rfl 0).junkF (k := 21) rfl 0, ((ht0.putF (k := 22) (by decide) 0).putF (k := 26) (by decide) 0).putF (k := 21) (by decide) 0, rfl, rfl, fun i hi => absurd hi (Nat.not_lt_zero _), fun _ => rfl⟩, rfl⟩) ?_
        refine j_callV (pc := 28) hK hQ (c_Ynext hn hn2 (Nat.zero_le _)) cal_X8_next yn_isC q1174 dX8_text_28 rfl rfl (nle rfl) (nle rfl) (nle rfl) (nle rfl) (kr_v ?_) kx_v
        refine j_aload_n (pc := 31) hK dX8_text_31 rfl ?_
        refine j_ldcs (pc := 32) hK q1184 hev236 dX8_text_32 ?_
        refine j_iconst (pc := 34) (v := 0) hK dX8_text_34 (by decide) ?_
        refine j_callV (pc := 35) hK hQ (hb1) cal_X8_part yp_isC q1185 dX8_text_35 rfl rfl (nle rfl) (nle rfl) (nle rfl) (nle rfl) (kr_i fun r35 => ?_) kx_i
        refine J.pre fun e35 => ?_
        subst e35
        refine j_if_eq_b (pc := 38) (tgt := 72) hK dX8_text_38 (by decide) (fun c38 => absurd trivial c38) (fun c38 => ?_)
        refine j_aload_n (pc := 41) hK dX8_text_41 rfl ?_
        refine j_ldcs (pc := 42) hK q1238 hev242 dX8_text_42 ?_
        refine j_iconst (pc := 44) (v := 1) hK dX8_text_44 (by decide) ?_
        refine j_callV (pc := 45) hK hQ (hb2) cal_X8_part yp_isC q1185 dX8_text_45 rfl rfl (nle rfl) (nle rfl) (nle rfl) (nle rfl) (kr_i fun r45 => ?_) kx_i
        refine J.pre fun e45 => ?_
        subst e45
        refine j_if_eq_b (pc := 48) (tgt := 72) hK dX8_text_48 (by decide) (fun c48 => ?_) (fun c48 => absurd c48 (fun z => z))
        exact fail q2 (tx_bad2 h1 h2)
      | (q2, some b), k2, hb2 =>
        have l2 := (k2.2 b rfl).1
        have m2 := k2.1
        simp only at l2 m2
        have hb2 : Ct Γ A yX8_part wX8_part 48 0 0 [.ref (L 40), .ref a242, .int 1] (YP Γ L f g T n (bB (fun j => g0 20 j) (nI (4 * tx + 0)) (nI ([] : List Int32).length)) ([] ++ a) 0 q) (RI fun r h => r = b2i True ∧ YP Γ L f g T n (bB (bB (fun j => g0 20 j) (nI (4 * tx + 0)) (nI ([] : List Int32).length)) (nI (4 * tx + 1)) (nI ([] ++ a).length)) ([] ++ a ++ b) 0 q2 h) := hb2
        have k3 := pt_ok (t := tp g) (w := wComes) m2
        have hb3 := c_Ypart (Γ := Γ) (A := A) (g := g) (L := L) (T := T) (B := bB (bB (fun j => g0 20 j) (nI (4 * tx + 0)) (nI ([] : List Int32).length)) (nI (4 * tx + 1)) (nI ([] ++ a).length)) (c0 := [] ++ a ++ b) 2 (by decide) hS244 (by decide) hn hn2 h17 htx6 m2 (by simp; omega)
        match h3 : ptP (tp g) n wComes q2, k3, hb3 with
        | (q3, none), k3, hb3 =>
          have hb3 : Ct Γ A yX8_part wX8_part 48 0 0 [.ref (L 40), .ref a244, .int 2] (YP Γ L f g T n (bB (bB (fun j => g0 20 j) (nI (4 * tx + 0)) (nI ([] : List Int32).length)) (nI (4 * tx + 1)) (nI ([] ++ a).length)) ([] ++ a ++ b) 0 q2) (RI fun r h => r = b2i False ∧ YBB Γ L f g T n q3 h) := hb3
          refine j_aload_n (pc := 0) hK dX8_text_0 rfl ?_
          refine y_getI (pc := 1) (k := 17) hK (by decide) rfl q1257 rfl dX8_text_1 ?_
          refine j_bipush (pc := 4) (v := 6) hK dX8_text_4 (by decide) ?_
          refine j_icmp_ne (pc := 6) (tgt := 12) hK dX8_text_6 (by decide) (fun c6 => ?_) (fun c6 => absurd c6 (by rw [e17]; exact h6))
          refine j_aload_n (pc := 12) hK dX8_text_12 rfl ?_
          refine j_iconst (pc := 13) (v := 0) hK dX8_text_13 (by decide) ?_
          refine y_putI (pc := 14) (k := 22) hK (by decide) rfl q1262 rfl rfl rfl rfl dX8_text_14 ?_
          refine j_aload_n (pc := 17) hK dX8_text_17 rfl ?_
          refine j_iconst (pc := 18) (v := 0) hK dX8_text_18 (by decide) ?_
          refine y_putI (pc := 19) (k := 26) hK (by decide) rfl q1266 rfl rfl rfl rfl dX8_text_19 ?_
          refine j_aload_n (pc := 22) hK dX8_text_22 rfl ?_
          refine j_iconst (pc := 23) (v := 0) hK dX8_text_23 (by decide) ?_
          refine y_putI (pc := 24) (k := 21) hK (by decide) rfl q1261 rfl rfl rfl rfl dX8_text_24 ?_
          refine j_aload_n (pc := 27) hK dX8_text_27 rfl ?_
          refine J.mono (P' := YN Γ L f g T (fun j => g0 20 j) [] 0 0) (fun h w => ⟨_, _, w, ⟨((he0.junkF (k := 22) rfl 0).junkF (k := 26) rfl 0).junkF (k := 21) rfl 0, ((ht0.putF (k := 22) (by decide) 0).putF (k := 26) (by decide) 0).putF (k := 21) (by decide) 0, rfl, rfl, fun i hi => absurd hi (Nat.not_lt_zero _), fun _ => rfl⟩, rfl⟩) ?_
          refine j_callV (pc := 28) hK hQ (c_Ynext hn hn2 (Nat.zero_le _)) cal_X8_next yn_isC q1174 dX8_text_28 rfl rfl (nle rfl) (nle rfl) (nle rfl) (nle rfl) (kr_v ?_) kx_v
          refine j_aload_n (pc := 31) hK dX8_text_31 rfl ?_
          refine j_ldcs (pc := 32) hK q1184 hev236 dX8_text_32 ?_
          refine j_iconst (pc := 34) (v := 0) hK dX8_text_34 (by decide) ?_
          refine j_callV (pc := 35) hK hQ (hb1) cal_X8_part yp_isC q1185 dX8_text_35 rfl rfl (nle rfl) (nle rfl) (nle rfl) (nle rfl) (kr_i fun r35 => ?_) kx_i
          refine J.pre fun e35 => ?_
          subst e35
          refine j_if_eq_b (pc := 38) (tgt := 72) hK dX8_text_38 (by decide) (fun c38 => absurd trivial c38) (fun c38 => ?_)
          refine j_aload_n (pc := 41) hK dX8_text_41 rfl ?_
          refine j_ldcs (pc := 42) hK q1238 hev242 dX8_text_42 ?_
          refine j_iconst (pc := 44) (v := 1) hK dX8_text_44 (by decide) ?_
          refine j_callV (pc := 45) hK hQ (hb2) cal_X8_part yp_isC q1185 dX8_text_45 rfl rfl (nle rfl) (nle rfl) (nle rfl) (nle rfl) (kr_i fun r45 => ?_) kx_i
          refine J.pre fun e45 => ?_
          subst e45
          refine j_if_eq_b (pc := 48) (tgt := 72) hK dX8_text_48 (by decide) (fun c48 => absurd trivial c48) (fun c48 => ?_)
          refine j_aload_n (pc := 51) hK dX8_text_51 rfl ?_
          refine j_ldcs (pc := 52) hK q1239 hev244 dX8_text_52 ?_
          refine j_iconst (pc := 54) (v := 2) hK dX8_text_54 (by decide) ?_
          refine j_callV (pc := 55) hK hQ (hb3) cal_X8_part yp_isC q1185 dX8_text_55 rfl rfl (nle rfl) (nle rfl) (nle rfl) (nle rfl) (kr_i fun r55 => ?_) kx_i
          refine J.pre fun e55 => ?_
          subst e55
          refine j_if_eq_b (pc := 58) (tgt := 72) hK dX8_text_58 (by decide) (fun c58 => ?_) (fun c58 => absurd c58 (fun z => z))
          exact fail q3 (tx_bad3 h1 h2 h3)
        | (q3, some c), k3, hb3 =>
          have l3 := (k3.2 c rfl).1
          have m3 := k3.1
          simp only at l3 m3
          have hb3 : Ct Γ A yX8_part wX8_part 48 0 0 [.ref (L 40), .ref a244, .int 2] (YP Γ L f g T n (bB (bB (fun j => g0 20 j) (nI (4 * tx + 0)) (nI ([] : List Int32).length)) (nI (4 * tx + 1)) (nI ([] ++ a).length)) ([] ++ a ++ b) 0 q2) (RI fun r h => r = b2i True ∧ YP Γ L f g T n (bB (bB (bB (fun j => g0 20 j) (nI (4 * tx + 0)) (nI ([] : List Int32).length)) (nI (4 * tx + 1)) (nI ([] ++ a).length)) (nI (4 * tx + 2)) (nI ([] ++ a ++ b).length)) ([] ++ a ++ b ++ c) 0 q3 h) := hb3
          refine j_aload_n (pc := 0) hK dX8_text_0 rfl ?_
          refine y_getI (pc := 1) (k := 17) hK (by decide) rfl q1257 rfl dX8_text_1 ?_
          refine j_bipush (pc := 4) (v := 6) hK dX8_text_4 (by decide) ?_
          refine j_icmp_ne (pc := 6) (tgt := 12) hK dX8_text_6 (by decide) (fun c6 => ?_) (fun c6 => absurd c6 (by rw [e17]; exact h6))
          refine j_aload_n (pc := 12) hK dX8_text_12 rfl ?_
          refine j_iconst (pc := 13) (v := 0) hK dX8_text_13 (by decide) ?_
          refine y_putI (pc := 14) (k := 22) hK (by decide) rfl q1262 rfl rfl rfl rfl dX8_text_14 ?_
          refine j_aload_n (pc := 17) hK dX8_text_17 rfl ?_
          refine j_iconst (pc := 18) (v := 0) hK dX8_text_18 (by decide) ?_
          refine y_putI (pc := 19) (k := 26) hK (by decide) rfl q1266 rfl rfl rfl rfl dX8_text_19 ?_
          refine j_aload_n (pc := 22) hK dX8_text_22 rfl ?_
          refine j_iconst (pc := 23) (v := 0) hK dX8_text_23 (by decide) ?_
          refine y_putI (pc := 24) (k := 21) hK (by decide) rfl q1261 rfl rfl rfl rfl dX8_text_24 ?_
          refine j_aload_n (pc := 27) hK dX8_text_27 rfl ?_
          refine J.mono (P' := YN Γ L f g T (fun j => g0 20 j) [] 0 0) (fun h w => ⟨_, _, w, ⟨((he0.junkF (k := 22) rfl 0).junkF (k := 26) rfl 0).junkF (k := 21) rfl 0, ((ht0.putF (k := 22) (by decide) 0).putF (k := 26) (by decide) 0).putF (k := 21) (by decide) 0, rfl, rfl, fun i hi => absurd hi (Nat.not_lt_zero _), fun _ => rfl⟩, rfl⟩) ?_
          refine j_callV (pc := 28) hK hQ (c_Ynext hn hn2 (Nat.zero_le _)) cal_X8_next yn_isC q1174 dX8_text_28 rfl rfl (nle rfl) (nle rfl) (nle rfl) (nle rfl) (kr_v ?_) kx_v
          refine j_aload_n (pc := 31) hK dX8_text_31 rfl ?_
          refine j_ldcs (pc := 32) hK q1184 hev236 dX8_text_32 ?_
          refine j_iconst (pc := 34) (v := 0) hK dX8_text_34 (by decide) ?_
          refine j_callV (pc := 35) hK hQ (hb1) cal_X8_part yp_isC q1185 dX8_text_35 rfl rfl (nle rfl) (nle rfl) (nle rfl) (nle rfl) (kr_i fun r35 => ?_) kx_i
          refine J.pre fun e35 => ?_
          subst e35
          refine j_if_eq_b (pc := 38) (tgt := 72) hK dX8_text_38 (by decide) (fun c38 => absurd trivial c38) (fun c38 => ?_)
          refine j_aload_n (pc := 41) hK dX8_text_41 rfl ?_
          refine j_ldcs (pc := 42) hK q1238 hev242 dX8_text_42 ?_
          refine j_iconst (pc := 44) (v := 1) hK dX8_text_44 (by decide) ?_
          refine j_callV (pc := 45) hK hQ (hb2) cal_X8_part yp_isC q1185 dX8_text_45 rfl rfl (nle rfl) (nle rfl) (nle rfl) (nle rfl) (kr_i fun r45 => ?_) kx_i
          refine J.pre fun e45 => ?_
          subst e45
          refine j_if_eq_b (pc := 48) (tgt := 72) hK dX8_text_48 (by decide) (fun c48 => absurd trivial c48) (fun c48 => ?_)
          refine j_aload_n (pc := 51) hK dX8_text_51 rfl ?_
          refine j_ldcs (pc := 52) hK q1239 hev244 dX8_text_52 ?_
          refine j_iconst (pc := 54) (v := 2) hK dX8_text_54 (by decide) ?_
          refine j_callV (pc := 55) hK hQ (hb3) cal_X8_part yp_isC q1185 dX8_text_55 rfl rfl (nle rfl) (nle rfl) (nle rfl) (nle rfl) (kr_i fun r55 => ?_) kx_i
          refine J.pre fun e55 => ?_
          subst e55
          refine j_if_eq_b (pc := 58) (tgt := 72) hK dX8_text_58 (by decide) (fun c58 => absurd trivial c58) (fun c58 => ?_)
          exact good _ a b c q3 (by simp only [List.length_append]; omega) (tx_end h1 h2 h3)
end Y19
