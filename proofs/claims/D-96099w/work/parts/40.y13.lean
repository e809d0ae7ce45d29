/-! the reference reads: next, is, name, put -/
set_option maxRecDepth 100000
abbrev tp (g : Nat → Int32 → Int32) : Nat → Int32 := fun i => g 16 (nI i)
section P13
variable {f : Nat → Int32} {g : Nat → Int32 → Int32} {T : TX} {f1 : Nat → Int32} {g1 : Nat → Int32 → Int32} {B : Int32 → Int32} {c0 : List Int32} {o : Nat} {t : Nat → Int32} {n : Nat}
/-- the reader's fields: o opened, the code c0 made so far, B where the parts begin -/
def YPc (f : Nat → Int32) (g : Nat → Int32 → Int32) (T : TX) (B : Int32 → Int32) (c0 : List Int32) (o : Nat) (f1 : Nat → Int32) (g1 : Nat → Int32 → Int32) : Prop := Ess f1 g1 f g ∧ YT f1 g1 T ∧ f1 26 = nI o ∧ f1 21 = nI c0.length ∧ (∀ i, i < c0.length → c0[i]? = some (g1 19 (170 * f 17 + nI i))) ∧ ∀ j, g1 20 j = B j
theorem YPc.putF (h : YPc f g T B c0 o f1 g1) {k : Nat} (hk : k = 22 ∨ k = 23 ∨ k = 24 ∨ k = 25) (v : Int32) : YPc f g T B c0 o (upd f1 k v) g1 := by
  obtain ⟨h1, h2, h3, h4, h5, h6⟩ := h
  rcases hk with rfl | rfl | rfl | rfl <;> exact ⟨h1.junkF rfl v, h2.putF (by decide) v, h3, h4, h5, h6⟩
theorem YPc.opn (h : YPc f g T B c0 o f1 g1) (o' : Nat) {v : Int32} (hv : v = nI o') : YPc f g T B c0 o' (upd f1 26 v) g1 := by
  obtain ⟨h1, h2, h3, h4, h5, h6⟩ := h
  exact ⟨h1.junkF rfl v, h2.putF (by decide) v, hv, h4, h5, h6⟩
theorem wd_iff {p : Nat} {bs : List Int32} : wdP t n p = bs ↔ (enP t n p - frP t n p = bs.length ∧ ∀ j, j < bs.length → t (frP t n p + j) = bs.getD j 0) := by
  unfold wdP
  constructor
  · intro h
    subst h
    simp only [List.length_map, List.length_range, true_and]
    intro j hj
    simp [hj]
  · intro ⟨h1, h2⟩
    rw [h1]
    apply List.ext_getElem
    · simp
    · intro i q1 q2
      simp only [List.getElem_map, List.getElem_range]
      rw [h2 i q2]
      simp [q2]
end P13
section Y13
variable {Γ : Gam} {A : Nat → Prop} {L : Nat → Nat} {f : Nat → Int32} {g : Nat → Int32 → Int32} {T : TX} {P : PH → Prop} {B : Int32 → Int32} {c0 : List Int32} {o n p : Nat} {K : JC} {pc : Nat} {ls : List (Option Value)} {st : List Value} {cs ss : Nat}
def YN (Γ : Gam) (L : Nat → Nat) (f : Nat → Int32) (g : Nat → Int32 → Int32) (T : TX) (B : Int32 → Int32) (c0 : List Int32) (o p : Nat) (h : PH) : Prop := ∃ f1 g1, YW Γ L f1 g1 h ∧ YPc f g T B c0 o f1 g1 ∧ f1 22 = nI p
def YPt (t : Nat → Int32) (n p : Nat) (f1 : Nat → Int32) : Prop := f1 22 = nI (enP t n p) ∧ f1 23 = nI (frP t n p) ∧ f1 24 = soP t n p ∧ (soP t n p = 1 ∨ soP t n p = 3 → f1 25 = vaP t n p)
def YP (Γ : Gam) (L : Nat → Nat) (f : Nat → Int32) (g : Nat → Int32 → Int32) (T : TX) (n : Nat) (B : Int32 → Int32) (c0 : List Int32) (o p : Nat) (h : PH) : Prop := ∃ f1 g1, YW Γ L f1 g1 h ∧ YPc f g T B c0 o f1 g1 ∧ YPt (tp g) n p f1
theorem YP.toN {h : PH} (w : YP Γ L f g T n B c0 o p h) : YN Γ L f g T B c0 o (enP (tp g) n p) h := by
  obtain ⟨f1, g1, w, hc, ht⟩ := w
  exact ⟨f1, g1, w, hc, ht.1⟩
theorem yn_open (k : ∀ f1 g1, YPc f g T B c0 o f1 g1 → f1 22 = nI p → J Γ A K pc ls st (YW Γ L f1 g1) cs ss) : J Γ A K pc ls st (YN Γ L f g T B c0 o p) cs ss := fun h H locs arr ⟨f1, g1, w, e, t⟩ hR hL => k f1 g1 e t h H locs arr w hR hL
theorem yp_open (k : ∀ f1 g1, YPc f g T B c0 o f1 g1 → YPt (tp g) n p f1 → J Γ A K pc ls st (YW Γ L f1 g1) cs ss) : J Γ A K pc ls st (YP Γ L f g T n B c0 o p) cs ss := fun h H locs arr ⟨f1, g1, w, e, t⟩ hR hL => k f1 g1 e t h H locs arr w hR hL
theorem yp_isC : IsC (YP Γ L f g T n B c0 o p) (L 40) RX8 := fun h ⟨f', g', w, _, _⟩ => ⟨7, _, _, w.1, rfl, rfl⟩
theorem yn_isC : IsC (YN Γ L f g T B c0 o p) (L 40) RX8 := fun h ⟨f', g', w, _, _⟩ => ⟨7, _, _, w.1, rfl, rfl⟩
theorem c_Ynext (hn : f 15 = nI n) (hn2 : n ≤ 160) (hp : p ≤ n) : Ct Γ A yX8_next wX8_next 2 0 0 [.ref (L 40)] (YN Γ L f g T B c0 o p) (RV (YP Γ L f g T n B c0 o p)) := by
  refine Ct.of (cc := cX8_next) (nL := 2) (ret := none) (ls := [some (.ref (L 40)), none]) rfl rfl rfl (nle rfl) ?_
  intro K hK hQ
  have hF := fr_le (t := tp g) hp
  have tpe : ∀ {f1 g1}, YPc f g T B c0 o f1 g1 → ∀ q, g1 16 (nI q) = tp g q := fun hc q => (hc.1 16 rfl).2 _
  have e15 : ∀ {f1 g1}, YPc f g T B c0 o f1 g1 → f1 15 = nI n := fun hc => by rw [(hc.1 15 rfl).1, hn]
  generalize hFe : frP (tp g) n p = F at hF
  have loopD : ¬ F = n → isDg (tp g F) → ∀ (r q : Nat) (f1 : Nat → Int32) (g1 : Nat → Int32 → Int32), q + r = n → F ≤ q → YPc f g T B c0 o f1 g1 → f1 22 = nI q → f1 23 = nI F → f1 25 = dgV (tp g) F (q - F) → runD (tp g) r q = enP (tp g) n p → J Γ A K 99 [some (.ref (L 40)), some (.int (tp g F))] [] (YW Γ L f1 g1) 0 0 := by
    intro hFn hdg r
    have fin : ∀ (q : Nat) (f1 : Nat → Int32) (g1 : Nat → Int32 → Int32), F ≤ q → q ≤ n → YPc f g T B c0 o f1 g1 → f1 22 = nI q → f1 23 = nI F → f1 25 = dgV (tp g) F (q - F) → q = enP (tp g) n p → J Γ A K 175 [some (.ref (L 40)), some (.int (tp g F))] [] (YW Γ L f1 g1) 0 0 := by
      intro q f1 g1 h1 h2 hc a22 a23 a25 eq
      have hs : f1 22 - f1 23 = nI (q - F) := by rw [a22, a23, pk_sub h1]
      have hv : vaP (tp g) n p = f1 25 := by unfold vaP; rw [hFe, if_pos hdg, a25, ← eq]
      have hso : soP (tp g) n p = if q - F ≤ 4 then 1 else 4 := by unfold soP; rw [hFe, if_neg hFn, if_pos hdg, ← eq]
      refine j_aload_n (pc := 175) hK dX8_next_175 rfl ?_
      refine j_aload_n (pc := 176) hK dX8_next_176 rfl ?_
      refine y_getI (pc := 177) (k := 22) hK (by decide) rfl q1262 rfl dX8_next_177 ?_
      refine j_aload_n (pc := 180) hK dX8_next_180 rfl ?_
      refine y_getI (pc := 181) (k := 23) hK (by decide) rfl q1263 rfl dX8_next_181 ?_
      refine j_isub (pc := 184) hK dX8_next_184 ?_
      refine j_iconst (pc := 185) (v := 4) hK dX8_next_185 (by decide) ?_
      rw [hs]
      refine j_icmp_le (pc := 186) (tgt := 193) hK dX8_next_186 (by decide) (fun c186 => ?_) (fun c186 => ?_)
      · have h4 : q - F ≤ 4 := (nI_leI (by omega) (by decide)).mp (show nI (q - F) ≤ nI 4 from c186)
        refine j_iconst (pc := 193) (v := 1) hK dX8_next_193 (by decide) ?_
        refine y_putI (pc := 194) (k := 24) hK (by decide) rfl q1264 rfl rfl rfl rfl dX8_next_194 ?_
        exact j_vret (pc := 197) hK hQ (nle rfl) (nle rfl) dX8_next_197 (fun h w => ⟨rfl, _, _, w, hc.putF (by simp) _, by show f1 22 = _; rw [a22, eq], by show f1 23 = _; rw [a23, hFe], by rw [hso]; first | rw [if_pos h4]; rfl | rw [if_neg h4]; rfl, fun _ => hv.symm⟩)
      · have h4 : ¬ q - F ≤ 4 := fun z => c186 (by rw [show (4 : Int32) = nI 4 by decide]; exact nI_le z (by omega))
        refine j_iconst (pc := 189) (v := 4) hK dX8_next_189 (by decide) ?_
        refine j_goto (pc := 190) (tgt := 194) hK dX8_next_190 (by decide) ?_
        refine y_putI (pc := 194) (k := 24) hK (by decide) rfl q1264 rfl rfl rfl rfl dX8_next_194 ?_
        exact j_vret (pc := 197) hK hQ (nle rfl) (nle rfl) dX8_next_197 (fun h w => ⟨rfl, _, _, w, hc.putF (by simp) _, by show f1 22 = _; rw [a22, eq], by show f1 23 = _; rw [a23, hFe], by rw [hso]; first | rw [if_pos h4]; rfl | rw [if_neg h4]; rfl, fun _ => hv.symm⟩)
    induction r with
    | zero =>
      intro q f1 g1 hq h1 hc a22 a23 a25 hr
      refine j_aload_n (pc := 99) hK dX8_next_99 rfl ?_
      refine y_getI (pc := 100) (k := 22) hK (by decide) rfl q1262 rfl dX8_next_100 ?_
      refine j_aload_n (pc := 103) hK dX8_next_103 rfl ?_
      refine y_getI (pc := 104) (k := 15) hK (by decide) rfl q1255 rfl dX8_next_104 ?_
      refine j_icmp_ge (pc := 107) (tgt := 175) hK dX8_next_107 (by decide) (fun c107 => ?_) (fun c107 => absurd (by rw [a22, e15 hc]; exact nI_le (by omega) (by omega)) c107)
      exact fin q f1 g1 h1 (by omega) hc a22 a23 a25 hr
    | succ r ih =>
      intro q f1 g1 hq h1 hc a22 a23 a25 hr
      have hs : f1 22 - f1 23 = nI (q - F) := by rw [a22, a23, pk_sub h1]
      have hr' : (if isDg (tp g q) then runD (tp g) r (q + 1) else q) = enP (tp g) n p := hr
      have hb : vp_in (f1 22) 160 := by rw [a22]; exact vp_in_nI (by omega) (by decide)
      refine j_aload_n (pc := 99) hK dX8_next_99 rfl ?_
      refine y_getI (pc := 100) (k := 22) hK (by decide) rfl q1262 rfl dX8_next_100 ?_
      refine j_aload_n (pc := 103) hK dX8_next_103 rfl ?_
      refine y_getI (pc := 104) (k := 15) hK (by decide) rfl q1255 rfl dX8_next_104 ?_
      refine j_icmp_ge (pc := 107) (tgt := 175) hK dX8_next_107 (by decide) (fun c107 => absurd c107 (by rw [a22, e15 hc]; exact nI_ge (by omega) (by omega))) (fun c107 => ?_)
      refine j_aload_n (pc := 110) hK dX8_next_110 rfl ?_
      refine y_getR (pc := 111) (k := 16) hK (by decide) rfl q1256 rfl dX8_next_111 ?_
      refine j_aload_n (pc := 114) hK dX8_next_114 rfl ?_
      refine y_getI (pc := 115) (k := 22) hK (by decide) rfl q1262 rfl dX8_next_115 ?_
      refine y_ald (pc := 118) (k := 16) hK rfl hb dX8_next_118 ?_
      rw [a22, tpe hc]
      refine j_callS (pc := 119) hK hQ (c_YisDigit _) cal_X8_isDigit q1178 dX8_next_119 rfl rfl (nle rfl) (nle rfl) (nle rfl) (nle rfl) (kr_i fun r119 => ?_) kx_i
      refine J.pre fun e119 => ?_
      subst e119
      refine j_if_eq_b (pc := 122) (tgt := 175) hK dX8_next_122 (by decide) (fun c122 => ?_) (fun c122 => ?_)
      · exact fin q f1 g1 h1 (by omega) hc a22 a23 a25 (by rw [if_neg c122] at hr'; exact hr')
      · rw [if_pos c122] at hr'
        have dstep : dgV (tp g) F (q + 1 - F) = if q - F < 4 then 10 * dgV (tp g) F (q - F) + tp g q - 48 else dgV (tp g) F (q - F) := by
          rw [show q + 1 - F = (q - F) + 1 by omega]
          show (if q - F < 4 then 10 * dgV (tp g) F (q - F) + tp g (F + (q - F)) - 48 else dgV (tp g) F (q - F)) = _
          rw [show F + (q - F) = q by omega]
        refine j_aload_n (pc := 125) hK dX8_next_125 rfl ?_
        refine y_getI (pc := 126) (k := 22) hK (by decide) rfl q1262 rfl dX8_next_126 ?_
        refine j_aload_n (pc := 129) hK dX8_next_129 rfl ?_
        refine y_getI (pc := 130) (k := 23) hK (by decide) rfl q1263 rfl dX8_next_130 ?_
        refine j_isub (pc := 133) hK dX8_next_133 ?_
        rw [hs]
        refine j_iconst (pc := 134) (v := 4) hK dX8_next_134 (by decide) ?_
        refine j_icmp_ge (pc := 135) (tgt := 162) hK dX8_next_135 (by decide) (fun c135 => ?_) (fun c135 => ?_)
        · refine j_aload_n (pc := 162) hK dX8_next_162 rfl ?_
          refine j_dup (pc := 163) hK dX8_next_163 rfl ?_
          refine y_getI (pc := 164) (k := 22) hK (by decide) rfl q1262 rfl dX8_next_164 ?_
          refine j_iconst (pc := 167) (v := 1) hK dX8_next_167 (by decide) ?_
          refine j_iadd (pc := 168) hK dX8_next_168 ?_
          refine y_putI (pc := 169) (k := 22) hK (by decide) rfl q1262 rfl rfl rfl rfl dX8_next_169 ?_
          refine j_goto (pc := 172) (tgt := 99) hK dX8_next_172 (by decide) ?_
          first
            | (refine ih (q + 1) _ g1 (by omega) (by omega) (hc.putF (by simp) _) ?_ a23 ?_ hr'; (· show f1 22 + 1 = _; rw [a22, nI_1]); (· show f1 25 = _; rw [dstep, if_neg (fun z => absurd c135 (nI_ge z (by decide))), a25]))
            | (refine ih (q + 1) _ g1 (by omega) (by omega) ((hc.putF (k := 25) (by simp) _).putF (k := 22) (by simp) _) ?_ a23 ?_ hr'; (· show f1 22 + 1 = _; rw [a22, nI_1]); (· show 10 * dgV (tp g) F (q - F) + tp g q - 48 = _; rw [dstep, if_pos ((nI_ltI (by omega) (by decide)).mp (Int32.not_le.mp c135))]))
        · refine j_aload_n (pc := 138) hK dX8_next_138 rfl ?_
          refine j_bipush (pc := 139) (v := 10) hK dX8_next_139 (by decide) ?_
          refine j_aload_n (pc := 141) hK dX8_next_141 rfl ?_
          refine y_getI (pc := 142) (k := 25) hK (by decide) rfl q1265 rfl dX8_next_142 ?_
          refine j_imul (pc := 145) hK dX8_next_145 ?_
          refine j_aload_n (pc := 146) hK dX8_next_146 rfl ?_
          refine y_getR (pc := 147) (k := 16) hK (by decide) rfl q1256 rfl dX8_next_147 ?_
          refine j_aload_n (pc := 150) hK dX8_next_150 rfl ?_
          refine y_getI (pc := 151) (k := 22) hK (by decide) rfl q1262 rfl dX8_next_151 ?_
          refine y_ald (pc := 154) (k := 16) hK rfl hb dX8_next_154 ?_
          rw [a22, tpe hc, a25]
          refine j_iadd (pc := 155) hK dX8_next_155 ?_
          refine j_bipush (pc := 156) (v := 48) hK dX8_next_156 (by decide) ?_
          refine j_isub (pc := 158) hK dX8_next_158 ?_
          refine y_putI (pc := 159) (k := 25) hK (by decide) rfl q1265 rfl rfl rfl rfl dX8_next_159 ?_
          refine j_aload_n (pc := 162) hK dX8_next_162 rfl ?_
          refine j_dup (pc := 163) hK dX8_next_163 rfl ?_
          refine y_getI (pc := 164) (k := 22) hK (by decide) rfl q1262 rfl dX8_next_164 ?_
          refine j_iconst (pc := 167) (v := 1) hK dX8_next_167 (by decide) ?_
          refine j_iadd (pc := 168) hK dX8_next_168 ?_
          refine y_putI (pc := 169) (k := 22) hK (by decide) rfl q1262 rfl rfl rfl rfl dX8_next_169 ?_
          refine j_goto (pc := 172) (tgt := 99) hK dX8_next_172 (by decide) ?_
          first
            | (refine ih (q + 1) _ g1 (by omega) (by omega) (hc.putF (by simp) _) ?_ a23 ?_ hr'; (· show f1 22 + 1 = _; rw [a22, nI_1]); (· show f1 25 = _; rw [dstep, if_neg (fun z => absurd c135 (nI_ge z (by decide))), a25]))
            | (refine ih (q + 1) _ g1 (by omega) (by omega) ((hc.putF (k := 25) (by simp) _).putF (k := 22) (by simp) _) ?_ a23 ?_ hr'; (· show f1 22 + 1 = _; rw [a22, nI_1]); (· show 10 * dgV (tp g) F (q - F) + tp g q - 48 = _; rw [dstep, if_pos ((nI_ltI (by omega) (by decide)).mp (Int32.not_le.mp c135))]))
  have loopL : ¬ F = n → ¬ isDg (tp g F) → isLt (tp g F) → ∀ (r q : Nat) (f1 : Nat → Int32) (g1 : Nat → Int32 → Int32), q + r = n → YPc f g T B c0 o f1 g1 → f1 22 = nI q → f1 23 = nI F → runL (tp g) r q = enP (tp g) n p → J Γ A K 205 [some (.ref (L 40)), some (.int (tp g F))] [] (YW Γ L f1 g1) 0 0 := by
    intro hFn hdg hlt r
    have hso : soP (tp g) n p = 2 := by unfold soP; rw [hFe, if_neg hFn, if_neg hdg, if_pos hlt]
    have no : ∀ {Z : Prop}, soP (tp g) n p = 1 ∨ soP (tp g) n p = 3 → Z := fun z => by rw [hso] at z; exact absurd z (by decide)
    induction r with
    | zero =>
      intro q f1 g1 hq hc a22 a23 hr
      refine j_aload_n (pc := 205) hK dX8_next_205 rfl ?_
      refine y_getI (pc := 206) (k := 22) hK (by decide) rfl q1262 rfl dX8_next_206 ?_
      refine j_aload_n (pc := 209) hK dX8_next_209 rfl ?_
      refine y_getI (pc := 210) (k := 15) hK (by decide) rfl q1255 rfl dX8_next_210 ?_
      refine j_icmp_ge (pc := 213) (tgt := 244) hK dX8_next_213 (by decide) (fun c213 => ?_) (fun c213 => absurd (by rw [a22, e15 hc]; exact nI_le (by omega) (by omega)) c213)
      refine j_aload_n (pc := 244) hK dX8_next_244 rfl ?_
      refine j_iconst (pc := 245) (v := 2) hK dX8_next_245 (by decide) ?_
      refine y_putI (pc := 246) (k := 24) hK (by decide) rfl q1264 rfl rfl rfl rfl dX8_next_246 ?_
      exact j_vret (pc := 249) hK hQ (nle rfl) (nle rfl) dX8_next_249 (fun h w => ⟨rfl, _, _, w, hc.putF (by simp) _, by show f1 22 = _; rw [a22, ← hr]; rfl, by show f1 23 = _; rw [a23, hFe], hso.symm, no⟩)
    | succ r ih =>
      intro q f1 g1 hq hc a22 a23 hr
      have hr' : (if isLt (tp g q) then runL (tp g) r (q + 1) else q) = enP (tp g) n p := hr
      have hb : vp_in (f1 22) 160 := by rw [a22]; exact vp_in_nI (by omega) (by decide)
      refine j_aload_n (pc := 205) hK dX8_next_205 rfl ?_
      refine y_getI (pc := 206) (k := 22) hK (by decide) rfl q1262 rfl dX8_next_206 ?_
      refine j_aload_n (pc := 209) hK dX8_next_209 rfl ?_
      refine y_getI (pc := 210) (k := 15) hK (by decide) rfl q1255 rfl dX8_next_210 ?_
      refine j_icmp_ge (pc := 213) (tgt := 244) hK dX8_next_213 (by decide) (fun c213 => absurd c213 (by rw [a22, e15 hc]; exact nI_ge (by omega) (by omega))) (fun c213 => ?_)
      refine j_aload_n (pc := 216) hK dX8_next_216 rfl ?_
      refine y_getR (pc := 217) (k := 16) hK (by decide) rfl q1256 rfl dX8_next_217 ?_
      refine j_aload_n (pc := 220) hK dX8_next_220 rfl ?_
      refine y_getI (pc := 221) (k := 22) hK (by decide) rfl q1262 rfl dX8_next_221 ?_
      refine y_ald (pc := 224) (k := 16) hK rfl hb dX8_next_224 ?_
      rw [a22, tpe hc]
      refine j_callS (pc := 225) hK hQ (c_YisLetter _) cal_X8_isLetter q1181 dX8_next_225 rfl rfl (nle rfl) (nle rfl) (nle rfl) (nle rfl) (kr_i fun r225 => ?_) kx_i
      refine J.pre fun e225 => ?_
      subst e225
      refine j_if_eq_b (pc := 228) (tgt := 244) hK dX8_next_228 (by decide) (fun c228 => ?_) (fun c228 => ?_)
      · refine j_aload_n (pc := 244) hK dX8_next_244 rfl ?_
        refine j_iconst (pc := 245) (v := 2) hK dX8_next_245 (by decide) ?_
        refine y_putI (pc := 246) (k := 24) hK (by decide) rfl q1264 rfl rfl rfl rfl dX8_next_246 ?_
        exact j_vret (pc := 249) hK hQ (nle rfl) (nle rfl) dX8_next_249 (fun h w => ⟨rfl, _, _, w, hc.putF (by simp) _, by show f1 22 = _; rw [a22]; rw [if_neg c228] at hr'; rw [hr'], by show f1 23 = _; rw [a23, hFe], hso.symm, no⟩)
      · refine j_aload_n (pc := 231) hK dX8_next_231 rfl ?_
        refine j_dup (pc := 232) hK dX8_next_232 rfl ?_
        refine y_getI (pc := 233) (k := 22) hK (by decide) rfl q1262 rfl dX8_next_233 ?_
        refine j_iconst (pc := 236) (v := 1) hK dX8_next_236 (by decide) ?_
        refine j_iadd (pc := 237) hK dX8_next_237 ?_
        refine y_putI (pc := 238) (k := 22) hK (by decide) rfl q1262 rfl rfl rfl rfl dX8_next_238 ?_
        refine j_goto (pc := 241) (tgt := 205) hK dX8_next_241 (by decide) ?_
        rw [if_pos c228] at hr'
        refine ih (q + 1) _ g1 (by omega) (hc.putF (by simp) _) ?_ a23 hr'
        show f1 22 + 1 = _
        rw [a22, nI_1]
  have seg60 : ∀ (f1 : Nat → Int32) (g1 : Nat → Int32 → Int32), YPc f g T B c0 o f1 g1 → f1 22 = nI F → f1 23 = nI F → J Γ A K 60 [some (.ref (L 40)), none] [] (YW Γ L f1 g1) 0 0 := by
    intro f1 g1 hc a22 a23
    refine j_aload_n (pc := 60) hK dX8_next_60 rfl ?_
    refine y_getI (pc := 61) (k := 22) hK (by decide) rfl q1262 rfl dX8_next_61 ?_
    refine j_aload_n (pc := 64) hK dX8_next_64 rfl ?_
    refine y_getI (pc := 65) (k := 15) hK (by decide) rfl q1255 rfl dX8_next_65 ?_
    refine j_icmp_ne (pc := 68) (tgt := 77) hK dX8_next_68 (by decide) (fun c68 => ?_) (fun c68 => ?_)
    · have hFn : ¬ F = n := fun z => c68 (by rw [a22, e15 hc, z])
      have hb : vp_in (f1 22) 160 := by rw [a22]; exact vp_in_nI (by omega) (by decide)
      refine j_aload_n (pc := 77) hK dX8_next_77 rfl ?_
      refine y_getR (pc := 78) (k := 16) hK (by decide) rfl q1256 rfl dX8_next_78 ?_
      refine j_aload_n (pc := 81) hK dX8_next_81 rfl ?_
      refine y_getI (pc := 82) (k := 22) hK (by decide) rfl q1262 rfl dX8_next_82 ?_
      refine y_ald (pc := 85) (k := 16) hK rfl hb dX8_next_85 ?_
      rw [a22, tpe hc]
      refine j_ist1 (pc := 86) hK dX8_next_86 (by decide) rfl ?_
      refine j_iload_n (pc := 87) hK dX8_next_87 rfl ?_
      refine j_callS (pc := 88) hK hQ (c_YisDigit _) cal_X8_isDigit q1178 dX8_next_88 rfl rfl (nle rfl) (nle rfl) (nle rfl) (nle rfl) (kr_i fun r88 => ?_) kx_i
      refine J.pre fun e88 => ?_
      subst e88
      refine j_if_eq_b (pc := 91) (tgt := 198) hK dX8_next_91 (by decide) (fun c91 => ?_) (fun c91 => ?_)
      · refine j_iload_n (pc := 198) hK dX8_next_198 rfl ?_
        refine j_callS (pc := 199) hK hQ (c_YisLetter _) cal_X8_isLetter q1181 dX8_next_199 rfl rfl (nle rfl) (nle rfl) (nle rfl) (nle rfl) (kr_i fun r199 => ?_) kx_i
        refine J.pre fun e199 => ?_
        subst e199
        refine j_if_eq_b (pc := 202) (tgt := 250) hK dX8_next_202 (by decide) (fun c202 => ?_) (fun c202 => ?_)
        · have hen : enP (tp g) n p = F + 1 := by unfold enP; rw [hFe, if_neg hFn, if_neg c91, if_neg c202]
          have hso : soP (tp g) n p = if isSg (tp g F) then 3 else 4 := by unfold soP; rw [hFe, if_neg hFn, if_neg c91, if_neg c202]
          have hva : vaP (tp g) n p = tp g F := by unfold vaP; rw [hFe, if_neg c91]
          have fin : ∀ (v : Int32), v = soP (tp g) n p → J Γ A K 319 [some (.ref (L 40)), some (.int (tp g F))] [.int v, .ref (L 40)] (YW Γ L (upd (upd f1 22 (f1 22 + 1)) 25 (tp g F)) g1) 0 0 := by
            intro v hv
            refine y_putI (pc := 319) (k := 24) hK (by decide) rfl q1264 rfl rfl rfl rfl dX8_next_319 ?_
            exact j_vret (pc := 322) hK hQ (nle rfl) (nle rfl) dX8_next_322 (fun h w => ⟨rfl, _, _, w, ((hc.putF (k := 22) (by simp) _).putF (k := 25) (by simp) _).putF (k := 24) (by simp) _, by show f1 22 + 1 = _; rw [a22, nI_1, hen], by show f1 23 = _; rw [a23, hFe], hv, fun _ => hva.symm⟩)
          refine j_aload_n (pc := 250) hK dX8_next_250 rfl ?_
          refine j_dup (pc := 251) hK dX8_next_251 rfl ?_
          refine y_getI (pc := 252) (k := 22) hK (by decide) rfl q1262 rfl dX8_next_252 ?_
          refine j_iconst (pc := 255) (v := 1) hK dX8_next_255 (by decide) ?_
          refine j_iadd (pc := 256) hK dX8_next_256 ?_
          refine y_putI (pc := 257) (k := 22) hK (by decide) rfl q1262 rfl rfl rfl rfl dX8_next_257 ?_
          refine j_aload_n (pc := 260) hK dX8_next_260 rfl ?_
          refine j_iload_n (pc := 261) hK dX8_next_261 rfl ?_
          refine y_putI (pc := 262) (k := 25) hK (by decide) rfl q1265 rfl rfl rfl rfl dX8_next_262 ?_
          refine j_aload_n (pc := 265) hK dX8_next_265 rfl ?_
          refine j_iload_n (pc := 266) hK dX8_next_266 rfl ?_
          refine j_bipush (pc := 267) (v := 40) hK dX8_next_267 (by decide) ?_
          refine j_icmp_eq (pc := 269) (tgt := 314) hK dX8_next_269 (by decide) (fun c269 => ?_) (fun c269 => ?_)
          · refine j_iconst (pc := 314) (v := 3) hK dX8_next_314 (by decide) ?_
            refine j_goto (pc := 315) (tgt := 319) hK dX8_next_315 (by decide) ?_
            exact fin _ (by rw [hso]; first | (rw [if_pos (by first | exact Or.inl c269 | exact Or.inr (Or.inl c275) | exact Or.inr (Or.inr (Or.inl c281)) | exact Or.inr (Or.inr (Or.inr (Or.inl c287))) | exact Or.inr (Or.inr (Or.inr (Or.inr (Or.inl c293)))) | exact Or.inr (Or.inr (Or.inr (Or.inr (Or.inr (Or.inl c299))))) | exact Or.inr (Or.inr (Or.inr (Or.inr (Or.inr (Or.inr (Or.inl c305)))))) | exact Or.inr (Or.inr (Or.inr (Or.inr (Or.inr (Or.inr (Or.inr c311)))))))]) | (rw [if_neg (fun z => by rcases z with z | z | z | z | z | z | z | z <;> first | exact c269 z | exact c275 z | exact c281 z | exact c287 z | exact c293 z | exact c299 z | exact c305 z | exact c311 z)]))
          · refine j_iload_n (pc := 272) hK dX8_next_272 rfl ?_
            refine j_bipush (pc := 273) (v := 41) hK dX8_next_273 (by decide) ?_
            refine j_icmp_eq (pc := 275) (tgt := 314) hK dX8_next_275 (by decide) (fun c275 => ?_) (fun c275 => ?_)
            · refine j_iconst (pc := 314) (v := 3) hK dX8_next_314 (by decide) ?_
              refine j_goto (pc := 315) (tgt := 319) hK dX8_next_315 (by decide) ?_
              exact fin _ (by rw [hso]; first | (rw [if_pos (by first | exact Or.inl c269 | exact Or.inr (Or.inl c275) | exact Or.inr (Or.inr (Or.inl c281)) | exact Or.inr (Or.inr (Or.inr (Or.inl c287))) | exact Or.inr (Or.inr (Or.inr (Or.inr (Or.inl c293)))) | exact Or.inr (Or.inr (Or.inr (Or.inr (Or.inr (Or.inl c299))))) | exact Or.inr (Or.inr (Or.inr (Or.inr (Or.inr (Or.inr (Or.inl c305)))))) | exact Or.inr (Or.inr (Or.inr (Or.inr (Or.inr (Or.inr (Or.inr c311)))))))]) | (rw [if_neg (fun z => by rcases z with z | z | z | z | z | z | z | z <;> first | exact c269 z | exact c275 z | exact c281 z | exact c287 z | exact c293 z | exact c299 z | exact c305 z | exact c311 z)]))
            · refine j_iload_n (pc := 278) hK dX8_next_278 rfl ?_
              refine j_bipush (pc := 279) (v := 59) hK dX8_next_279 (by decide) ?_
              refine j_icmp_eq (pc := 281) (tgt := 314) hK dX8_next_281 (by decide) (fun c281 => ?_) (fun c281 => ?_)
              · refine j_iconst (pc := 314) (v := 3) hK dX8_next_314 (by decide) ?_
                refine j_goto (pc := 315) (tgt := 319) hK dX8_next_315 (by decide) ?_
                exact fin _ (by rw [hso]; first | (rw [if_pos (by first | exact Or.inl c269 | exact Or.inr (Or.inl c275) | exact Or.inr (Or.inr (Or.inl c281)) | exact Or.inr (Or.inr (Or.inr (Or.inl c287))) | exact Or.inr (Or.inr (Or.inr (Or.inr (Or.inl c293)))) | exact Or.inr (Or.inr (Or.inr (Or.inr (Or.inr (Or.inl c299))))) | exact Or.inr (Or.inr (Or.inr (Or.inr (Or.inr (Or.inr (Or.inl c305)))))) | exact Or.inr (Or.inr (Or.inr (Or.inr (Or.inr (Or.inr (Or.inr c311)))))))]) | (rw [if_neg (fun z => by rcases z with z | z | z | z | z | z | z | z <;> first | exact c269 z | exact c275 z | exact c281 z | exact c287 z | exact c293 z | exact c299 z | exact c305 z | exact c311 z)]))
              · refine j_iload_n (pc := 284) hK dX8_next_284 rfl ?_
                refine j_bipush (pc := 285) (v := 43) hK dX8_next_285 (by decide) ?_
                refine j_icmp_eq (pc := 287) (tgt := 314) hK dX8_next_287 (by decide) (fun c287 => ?_) (fun c287 => ?_)
                · refine j_iconst (pc := 314) (v := 3) hK dX8_next_314 (by decide) ?_
                  refine j_goto (pc := 315) (tgt := 319) hK dX8_next_315 (by decide) ?_
                  exact fin _ (by rw [hso]; first | (rw [if_pos (by first | exact Or.inl c269 | exact Or.inr (Or.inl c275) | exact Or.inr (Or.inr (Or.inl c281)) | exact Or.inr (Or.inr (Or.inr (Or.inl c287))) | exact Or.inr (Or.inr (Or.inr (Or.inr (Or.inl c293)))) | exact Or.inr (Or.inr (Or.inr (Or.inr (Or.inr (Or.inl c299))))) | exact Or.inr (Or.inr (Or.inr (Or.inr (Or.inr (Or.inr (Or.inl c305)))))) | exact Or.inr (Or.inr (Or.inr (Or.inr (Or.inr (Or.inr (Or.inr c311)))))))]) | (rw [if_neg (fun z => by rcases z with z | z | z | z | z | z | z | z <;> first | exact c269 z | exact c275 z | exact c281 z | exact c287 z | exact c293 z | exact c299 z | exact c305 z | exact c311 z)]))
                · refine j_iload_n (pc := 290) hK dX8_next_290 rfl ?_
                  refine j_bipush (pc := 291) (v := 45) hK dX8_next_291 (by decide) ?_
                  refine j_icmp_eq (pc := 293) (tgt := 314) hK dX8_next_293 (by decide) (fun c293 => ?_) (fun c293 => ?_)
                  · refine j_iconst (pc := 314) (v := 3) hK dX8_next_314 (by decide) ?_
                    refine j_goto (pc := 315) (tgt := 319) hK dX8_next_315 (by decide) ?_
                    exact fin _ (by rw [hso]; first | (rw [if_pos (by first | exact Or.inl c269 | exact Or.inr (Or.inl c275) | exact Or.inr (Or.inr (Or.inl c281)) | exact Or.inr (Or.inr (Or.inr (Or.inl c287))) | exact Or.inr (Or.inr (Or.inr (Or.inr (Or.inl c293)))) | exact Or.inr (Or.inr (Or.inr (Or.inr (Or.inr (Or.inl c299))))) | exact Or.inr (Or.inr (Or.inr (Or.inr (Or.inr (Or.inr (Or.inl c305)))))) | exact Or.inr (Or.inr (Or.inr (Or.inr (Or.inr (Or.inr (Or.inr c311)))))))]) | (rw [if_neg (fun z => by rcases z with z | z | z | z | z | z | z | z <;> first | exact c269 z | exact c275 z | exact c281 z | exact c287 z | exact c293 z | exact c299 z | exact c305 z | exact c311 z)]))
                  · refine j_iload_n (pc := 296) hK dX8_next_296 rfl ?_
                    refine j_bipush (pc := 297) (v := 42) hK dX8_next_297 (by decide) ?_
                    refine j_icmp_eq (pc := 299) (tgt := 314) hK dX8_next_299 (by decide) (fun c299 => ?_) (fun c299 => ?_)
                    · refine j_iconst (pc := 314) (v := 3) hK dX8_next_314 (by decide) ?_
                      refine j_goto (pc := 315) (tgt := 319) hK dX8_next_315 (by decide) ?_
                      exact fin _ (by rw [hso]; first | (rw [if_pos (by first | exact Or.inl c269 | exact Or.inr (Or.inl c275) | exact Or.inr (Or.inr (Or.inl c281)) | exact Or.inr (Or.inr (Or.inr (Or.inl c287))) | exact Or.inr (Or.inr (Or.inr (Or.inr (Or.inl c293)))) | exact Or.inr (Or.inr (Or.inr (Or.inr (Or.inr (Or.inl c299))))) | exact Or.inr (Or.inr (Or.inr (Or.inr (Or.inr (Or.inr (Or.inl c305)))))) | exact Or.inr (Or.inr (Or.inr (Or.inr (Or.inr (Or.inr (Or.inr c311)))))))]) | (rw [if_neg (fun z => by rcases z with z | z | z | z | z | z | z | z <;> first | exact c269 z | exact c275 z | exact c281 z | exact c287 z | exact c293 z | exact c299 z | exact c305 z | exact c311 z)]))
                    · refine j_iload_n (pc := 302) hK dX8_next_302 rfl ?_
                      refine j_bipush (pc := 303) (v := 60) hK dX8_next_303 (by decide) ?_
                      refine j_icmp_eq (pc := 305) (tgt := 314) hK dX8_next_305 (by decide) (fun c305 => ?_) (fun c305 => ?_)
                      · refine j_iconst (pc := 314) (v := 3) hK dX8_next_314 (by decide) ?_
                        refine j_goto (pc := 315) (tgt := 319) hK dX8_next_315 (by decide) ?_
                        exact fin _ (by rw [hso]; first | (rw [if_pos (by first | exact Or.inl c269 | exact Or.inr (Or.inl c275) | exact Or.inr (Or.inr (Or.inl c281)) | exact Or.inr (Or.inr (Or.inr (Or.inl c287))) | exact Or.inr (Or.inr (Or.inr (Or.inr (Or.inl c293)))) | exact Or.inr (Or.inr (Or.inr (Or.inr (Or.inr (Or.inl c299))))) | exact Or.inr (Or.inr (Or.inr (Or.inr (Or.inr (Or.inr (Or.inl c305)))))) | exact Or.inr (Or.inr (Or.inr (Or.inr (Or.inr (Or.inr (Or.inr c311)))))))]) | (rw [if_neg (fun z => by rcases z with z | z | z | z | z | z | z | z <;> first | exact c269 z | exact c275 z | exact c281 z | exact c287 z | exact c293 z | exact c299 z | exact c305 z | exact c311 z)]))
                      · refine j_iload_n (pc := 308) hK dX8_next_308 rfl ?_
                        refine j_bipush (pc := 309) (v := 61) hK dX8_next_309 (by decide) ?_
                        refine j_icmp_ne (pc := 311) (tgt := 318) hK dX8_next_311 (by decide) (fun c311 => ?_) (fun c311 => ?_)
                        · refine j_iconst (pc := 318) (v := 4) hK dX8_next_318 (by decide) ?_
                          exact fin _ (by rw [hso]; first | (rw [if_pos (by first | exact Or.inl c269 | exact Or.inr (Or.inl c275) | exact Or.inr (Or.inr (Or.inl c281)) | exact Or.inr (Or.inr (Or.inr (Or.inl c287))) | exact Or.inr (Or.inr (Or.inr (Or.inr (Or.inl c293)))) | exact Or.inr (Or.inr (Or.inr (Or.inr (Or.inr (Or.inl c299))))) | exact Or.inr (Or.inr (Or.inr (Or.inr (Or.inr (Or.inr (Or.inl c305)))))) | exact Or.inr (Or.inr (Or.inr (Or.inr (Or.inr (Or.inr (Or.inr c311)))))))]) | (rw [if_neg (fun z => by rcases z with z | z | z | z | z | z | z | z <;> first | exact c269 z | exact c275 z | exact c281 z | exact c287 z | exact c293 z | exact c299 z | exact c305 z | exact c311 z)]))
                        · refine j_iconst (pc := 314) (v := 3) hK dX8_next_314 (by decide) ?_
                          refine j_goto (pc := 315) (tgt := 319) hK dX8_next_315 (by decide) ?_
                          exact fin _ (by rw [hso]; first | (rw [if_pos (by first | exact Or.inl c269 | exact Or.inr (Or.inl c275) | exact Or.inr (Or.inr (Or.inl c281)) | exact Or.inr (Or.inr (Or.inr (Or.inl c287))) | exact Or.inr (Or.inr (Or.inr (Or.inr (Or.inl c293)))) | exact Or.inr (Or.inr (Or.inr (Or.inr (Or.inr (Or.inl c299))))) | exact Or.inr (Or.inr (Or.inr (Or.inr (Or.inr (Or.inr (Or.inl c305)))))) | exact Or.inr (Or.inr (Or.inr (Or.inr (Or.inr (Or.inr (Or.inr c311)))))))]) | (rw [if_neg (fun z => by rcases z with z | z | z | z | z | z | z | z <;> first | exact c269 z | exact c275 z | exact c281 z | exact c287 z | exact c293 z | exact c299 z | exact c305 z | exact c311 z)]))
        · exact loopL hFn c91 c202 (n - F) F f1 g1 (by omega) hc a22 a23 (by unfold enP; rw [hFe, if_neg hFn, if_neg c91, if_pos c202])
      · refine j_aload_n (pc := 94) hK dX8_next_94 rfl ?_
        refine j_iconst (pc := 95) (v := 0) hK dX8_next_95 (by decide) ?_
        refine y_putI (pc := 96) (k := 25) hK (by decide) rfl q1265 rfl rfl rfl rfl dX8_next_96 ?_
        exact loopD hFn c91 (n - F) F _ g1 (by omega) (Nat.le_refl _) (hc.putF (by simp) _) a22 a23 (by rw [Nat.sub_self]; rfl) (by unfold enP; rw [hFe, if_neg hFn, if_pos c91])
    · have hFn : F = n := (nI_eq (by omega) (by omega)).mp (by rw [← a22, ← e15 hc]; exact c68)
      have hso : soP (tp g) n p = 0 := by unfold soP; rw [hFe, if_pos hFn]
      refine j_aload_n (pc := 71) hK dX8_next_71 rfl ?_
      refine j_iconst (pc := 72) (v := 0) hK dX8_next_72 (by decide) ?_
      refine y_putI (pc := 73) (k := 24) hK (by decide) rfl q1264 rfl rfl rfl rfl dX8_next_73 ?_
      exact j_vret (pc := 76) hK hQ (nle rfl) (nle rfl) dX8_next_76 (fun h w => ⟨rfl, _, _, w, hc.putF (by simp) _, by show f1 22 = _; rw [a22]; unfold enP; rw [hFe, if_pos hFn, hFn], by show f1 23 = _; rw [a23, hFe], hso.symm, fun z => by rw [hso] at z; exact absurd z (by decide)⟩)
  have loop : ∀ (r q : Nat) (f1 : Nat → Int32) (g1 : Nat → Int32 → Int32), q + r = n → YPc f g T B c0 o f1 g1 → f1 22 = nI q → skp (tp g) r q = F → J Γ A K 0 [some (.ref (L 40)), none] [] (YW Γ L f1 g1) 0 0 := by
    intro r
    induction r with
    | zero =>
      intro q f1 g1 hq hc a22 hr
      have hr' : q = F := hr
      subst hr'
      refine j_aload_n (pc := 0) hK dX8_next_0 rfl ?_
      refine y_getI (pc := 1) (k := 22) hK (by decide) rfl q1262 rfl dX8_next_1 ?_
      refine j_aload_n (pc := 4) hK dX8_next_4 rfl ?_
      refine y_getI (pc := 5) (k := 15) hK (by decide) rfl q1255 rfl dX8_next_5 ?_
      refine j_icmp_ge (pc := 8) (tgt := 52) hK dX8_next_8 (by decide) (fun c8 => ?_) (fun c8 => absurd (by rw [a22, e15 hc]; exact nI_le (by omega) (by omega)) c8)
      refine j_aload_n (pc := 52) hK dX8_next_52 rfl ?_
      refine j_aload_n (pc := 53) hK dX8_next_53 rfl ?_
      refine y_getI (pc := 54) (k := 22) hK (by decide) rfl q1262 rfl dX8_next_54 ?_
      refine y_putI (pc := 57) (k := 23) hK (by decide) rfl q1263 rfl rfl rfl rfl dX8_next_57 ?_
      exact seg60 _ g1 (hc.putF (by simp) _) a22 a22
    | succ r ih =>
      intro q f1 g1 hq hc a22 hr
      have hr' : (if tp g q = 32 ∨ tp g q = 10 then skp (tp g) r (q + 1) else q) = F := hr
      have hb : vp_in (f1 22) 160 := by rw [a22]; exact vp_in_nI (by omega) (by decide)
      refine j_aload_n (pc := 0) hK dX8_next_0 rfl ?_
      refine y_getI (pc := 1) (k := 22) hK (by decide) rfl q1262 rfl dX8_next_1 ?_
      refine j_aload_n (pc := 4) hK dX8_next_4 rfl ?_
      refine y_getI (pc := 5) (k := 15) hK (by decide) rfl q1255 rfl dX8_next_5 ?_
      refine j_icmp_ge (pc := 8) (tgt := 52) hK dX8_next_8 (by decide) (fun c8 => absurd c8 (by rw [a22, e15 hc]; exact nI_ge (by omega) (by omega))) (fun c8 => ?_)
      refine j_aload_n (pc := 11) hK dX8_next_11 rfl ?_
      refine y_getR (pc := 12) (k := 16) hK (by decide) rfl q1256 rfl dX8_next_12 ?_
      refine j_aload_n (pc := 15) hK dX8_next_15 rfl ?_
      refine y_getI (pc := 16) (k := 22) hK (by decide) rfl q1262 rfl dX8_next_16 ?_
      refine y_ald (pc := 19) (k := 16) hK rfl hb dX8_next_19 ?_
      rw [a22, tpe hc]
      refine j_bipush (pc := 20) (v := 32) hK dX8_next_20 (by decide) ?_
      refine j_icmp_eq (pc := 22) (tgt := 39) hK dX8_next_22 (by decide) (fun c22 => ?_) (fun c22 => ?_)
      · refine j_aload_n (pc := 39) hK dX8_next_39 rfl ?_
        refine j_dup (pc := 40) hK dX8_next_40 rfl ?_
        refine y_getI (pc := 41) (k := 22) hK (by decide) rfl q1262 rfl dX8_next_41 ?_
        refine j_iconst (pc := 44) (v := 1) hK dX8_next_44 (by decide) ?_
        refine j_iadd (pc := 45) hK dX8_next_45 ?_
        refine y_putI (pc := 46) (k := 22) hK (by decide) rfl q1262 rfl rfl rfl rfl dX8_next_46 ?_
        refine j_goto (pc := 49) (tgt := 0) hK dX8_next_49 (by decide) ?_
        rw [if_pos (by first | exact Or.inl c22 | exact Or.inr c36)] at hr'
        refine ih (q + 1) _ g1 (by omega) (hc.putF (by simp) _) ?_ hr'
        show f1 22 + 1 = _
        rw [a22, nI_1]
      · refine j_aload_n (pc := 25) hK dX8_next_25 rfl ?_
        refine y_getR (pc := 26) (k := 16) hK (by decide) rfl q1256 rfl dX8_next_26 ?_
        refine j_aload_n (pc := 29) hK dX8_next_29 rfl ?_
        refine y_getI (pc := 30) (k := 22) hK (by decide) rfl q1262 rfl dX8_next_30 ?_
        refine y_ald (pc := 33) (k := 16) hK rfl hb dX8_next_33 ?_
        rw [a22, tpe hc]
        refine j_bipush (pc := 34) (v := 10) hK dX8_next_34 (by decide) ?_
        refine j_icmp_ne (pc := 36) (tgt := 52) hK dX8_next_36 (by decide) (fun c36 => ?_) (fun c36 => ?_)
        · refine j_aload_n (pc := 52) hK dX8_next_52 rfl ?_
          refine j_aload_n (pc := 53) hK dX8_next_53 rfl ?_
          refine y_getI (pc := 54) (k := 22) hK (by decide) rfl q1262 rfl dX8_next_54 ?_
          refine y_putI (pc := 57) (k := 23) hK (by decide) rfl q1263 rfl rfl rfl rfl dX8_next_57 ?_
          exact seg60 _ g1 (hc.putF (by simp) _) (by show f1 22 = _; rw [if_neg (fun z => z.elim c22 c36)] at hr'; rw [a22, hr']) (by show f1 22 = _; rw [if_neg (fun z => z.elim c22 c36)] at hr'; rw [a22, hr'])
        · refine j_aload_n (pc := 39) hK dX8_next_39 rfl ?_
          refine j_dup (pc := 40) hK dX8_next_40 rfl ?_
          refine y_getI (pc := 41) (k := 22) hK (by decide) rfl q1262 rfl dX8_next_41 ?_
          refine j_iconst (pc := 44) (v := 1) hK dX8_next_44 (by decide) ?_
          refine j_iadd (pc := 45) hK dX8_next_45 ?_
          refine y_putI (pc := 46) (k := 22) hK (by decide) rfl q1262 rfl rfl rfl rfl dX8_next_46 ?_
          refine j_goto (pc := 49) (tgt := 0) hK dX8_next_49 (by decide) ?_
          rw [if_pos (by first | exact Or.inl c22 | exact Or.inr c36)] at hr'
          refine ih (q + 1) _ g1 (by omega) (hc.putF (by simp) _) ?_ hr'
          show f1 22 + 1 = _
          rw [a22, nI_1]
  refine yn_open fun f1 g1 hc a22 => ?_
  exact loop (n - p) p f1 g1 (by omega) hc a22 hFe
end Y13
