/-! image, back, where, drawn, heard, lowest, chance -/
set_option maxRecDepth 100000
section S8
variable (f : Nat → Int32) (g : Nat → Int32 → Int32) (T : TX)
def imgL : Nat → Nat → Int32 → Int32
  | 0 => g
  | i + 1 => ug (ug (ug (ug (ug (ug (imgL i) 35 (6 * nI i) (imgL i 3 (nI i))) 35 (6 * nI i + 1) (imgL i 4 (nI i))) 35 (6 * nI i + 2) (imgL i 5 (nI i))) 35 (6 * nI i + 3) (imgL i 2 (nI i))) 35 (6 * nI i + 4) (imgL i 6 (nI i))) 35 (6 * nI i + 5) (imgL i 7 (nI i))
def oImage (nb : Nat) : R3 := (f 0, upd (upd f 33 1) 34 (f 0), ug (ug (ug (ug (ug (ug (ug (ug (imgL g nb) 35 42 (f 8)) 35 43 (f 9)) 35 44 (f 10)) 35 45 (f 11)) 35 46 (f 12)) 35 47 (f 13)) 35 48 (f 14)) 35 49 (f 18))
def bakL : Nat → Nat → Int32 → Int32
  | 0 => g
  | i + 1 => ug (ug (ug (ug (ug (ug (bakL i) 3 (nI i) (bakL i 35 (6 * nI i))) 4 (nI i) (bakL i 35 (6 * nI i + 1))) 5 (nI i) (bakL i 35 (6 * nI i + 2))) 2 (nI i) (bakL i 35 (6 * nI i + 3))) 6 (nI i) (bakL i 35 (6 * nI i + 4))) 7 (nI i) (bakL i 35 (6 * nI i + 5))
def oBack (nb : Nat) : R3 := if f 33 = 0 then (-3, f, g) else (f 34, upd (upd (upd (upd (upd (upd (upd (upd (upd f 0 (f 34)) 8 (bakL g nb 35 42)) 9 (bakL g nb 35 43)) 10 (bakL g nb 35 44)) 11 (bakL g nb 35 45)) 12 (bakL g nb 35 46)) 13 (bakL g nb 35 47)) 14 (bakL g nb 35 48)) 18 (bakL g nb 35 49), bakL g nb)
def whL (b y : Int32) : Nat → Int32
  | 0 => 0
  | i + 1 => if WC f g T b (8 * y + nI i) (f 10) then whL b y i ||| (1 <<< (nI i &&& 31)) else whL b y i
def oWhere (b y : Int32) : Int32 := if ¬ (0 ≤ b ∧ b ≤ f 0 - 1) then -2 else if ¬ (0 ≤ y ∧ y ≤ 5) then -2 else whL f g T b y 8
def cntW : Nat → Int32
  | 0 => 0
  | i + 1 => if g 6 (nI i) = 0 ∧ WC f g T (nI i) (g 3 (nI i)) (f 10) then cntW i + 1 else cntW i
def windI (seed : Int32) : Int32 := ((seed * 1103515245 + 12345).toUInt32 >>> ((10 : Int32).toUInt32 &&& Int32.toUInt32 31)).toInt32 % 10
def oDrawn (nb : Nat) (seed : Int32) : Int32 := cntW (upd f 9 (windI seed)) g T nb
abbrev heardOk (b came : Int32) : Prop := (0 ≤ b ∧ b ≤ f 0 - 1) ∧ (0 ≤ came ∧ came ≤ 1) ∧ g 6 b = 0 ∧ b2i (WC f g T b (g 3 b) (f 10)) = b2i (came = 1)
def heardL (s : Int32) : Nat → Nat → Int32
  | 0, _ => -1
  | r + 1, i => if heardOk f g T (g 38 (40 * s + 2 * nI i)) (g 38 (40 * s + 2 * nI i + 1)) then heardL s r (i + 1) else nI i
def oHeard (s : Int32) : Int32 := if ¬ (0 ≤ s ∧ s ≤ 3) then -2 else if g 36 s = -1 then -11 else if g 37 s % 2 = 1 then -2 else heardL f g T s ((g 37 s).toNatClampNeg / 2) 0
/-- how many of the first n draws are good -/
def gdN (nb : Nat) (seed : Int32) : Nat → Nat
  | 0 => 0
  | i + 1 => if oDrawn f g T nb (seed + nI i) = cntS g 0 nb then gdN nb seed i + 1 else gdN nb seed i
def oChance (nb : Nat) (seed n part : Int32) : Int64 := if ¬ (1 ≤ n ∧ n ≤ 20) then -4611686018427387904 else if ¬ (0 ≤ part ∧ part ≤ 1) then -4611686018427387904 else lN ((if part = 0 then gdN f g T nb seed n.toNatClampNeg else n.toNatClampNeg) / Nat.gcd (gdN f g T nb seed n.toNatClampNeg) n.toNatClampNeg)
end S8
section P8
variable {f : Nat → Int32} {g : Nat → Int32 → Int32} {T : TX}
theorem whL_t {b y : Int32} {i : Nat} (h : WC f g T b (8 * y + nI i) (f 10)) : whL f g T b y (i + 1) = whL f g T b y i ||| (1 <<< (nI i &&& 31)) := if_pos h
theorem whL_f {b y : Int32} {i : Nat} (h : ¬ WC f g T b (8 * y + nI i) (f 10)) : whL f g T b y (i + 1) = whL f g T b y i := if_neg h
theorem cntW_n1 {i : Nat} (h : ¬ g 6 (nI i) = 0) : cntW f g T (i + 1) = cntW f g T i := if_neg (fun z => h z.1)
theorem cntW_n2 {i : Nat} (h : ¬ WC f g T (nI i) (g 3 (nI i)) (f 10)) : cntW f g T (i + 1) = cntW f g T i := if_neg (fun z => h z.2)
theorem cntW_p {i : Nat} (h1 : g 6 (nI i) = 0) (h2 : WC f g T (nI i) (g 3 (nI i)) (f 10)) : cntW f g T (i + 1) = cntW f g T i + 1 := if_pos ⟨h1, h2⟩
theorem cntS_y {s : Int32} {i : Nat} (h : g 6 (nI i) = s) : cntS g s (i + 1) = cntS g s i + 1 := if_pos h
theorem cntS_n {s : Int32} {i : Nat} (h : ¬ g 6 (nI i) = s) : cntS g s (i + 1) = cntS g s i := if_neg h
theorem gdN_y {nb i : Nat} {s : Int32} (h : oDrawn f g T nb (s + nI i) = cntS g 0 nb) : gdN f g T nb s (i + 1) = gdN f g T nb s i + 1 := if_pos h
theorem gdN_n {nb i : Nat} {s : Int32} (h : ¬ oDrawn f g T nb (s + nI i) = cntS g 0 nb) : gdN f g T nb s (i + 1) = gdN f g T nb s i := if_neg h
theorem gdN_le {nb : Nat} {s : Int32} : ∀ i, gdN f g T nb s i ≤ i := by
  intro i
  induction i with
  | zero => exact Nat.le_refl _
  | succ i ih =>
    unfold gdN
    split <;> omega
theorem upd_back (f : Nat → Int32) (k : Nat) (v : Int32) : upd (upd f k v) k (f k) = f := by
  funext j
  unfold upd
  by_cases h : j = k
  · rw [if_pos h, h]
  · rw [if_neg h, if_neg h]
theorem six_in {i j : Nat} (hi : i < 7) (hj : j < 6) : vp_in (6 * nI i + nI j) 50 := by
  rw [show (6 : Int32) = nI 6 by decide, pk_mul, nI_add]
  exact vp_in_nI (by omega) (by decide)
theorem six0 {i : Nat} (hi : i < 7) : vp_in (6 * nI i) 50 := by
  rw [show (6 : Int32) = nI 6 by decide, pk_mul]
  exact vp_in_nI (by omega) (by decide)
theorem nI_rem {a d : Nat} (ha : a < 2 ^ 31) (h0 : 0 < d) (hd : d < 2 ^ 31) : nI a % nI d = nI (a % d) := by
  rw [← j_irem_eq]
  exact pk_rem ha h0 hd
theorem hd_a {b c : Int32} (h : ¬ (0 ≤ b ∧ b ≤ f 0 - 1)) : ¬ heardOk f g T b c := fun z => h z.1
theorem hd_b {b c : Int32} (h : ¬ (0 ≤ c ∧ c ≤ 1)) : ¬ heardOk f g T b c := fun z => h z.2.1
theorem hd_c {b c : Int32} (h : ¬ g 6 b = 0) : ¬ heardOk f g T b c := fun z => h z.2.2.1
theorem hd_d {b c : Int32} (h1 : c = 1) (h : ¬ b2i (WC f g T b (g 3 b) (f 10)) = 1) : ¬ heardOk f g T b c := fun z => h (z.2.2.2.trans (b2i_t h1))
theorem hd_e {b c : Int32} (h1 : ¬ c = 1) (h : ¬ b2i (WC f g T b (g 3 b) (f 10)) = 0) : ¬ heardOk f g T b c := fun z => h (z.2.2.2.trans (b2i_f h1))
theorem hd_y1 {b c : Int32} (a1 : 0 ≤ b ∧ b ≤ f 0 - 1) (a2 : 0 ≤ c ∧ c ≤ 1) (a3 : g 6 b = 0) (h1 : c = 1) (h : b2i (WC f g T b (g 3 b) (f 10)) = 1) : heardOk f g T b c := ⟨a1, a2, a3, h.trans (b2i_t h1).symm⟩
theorem hd_y2 {b c : Int32} (a1 : 0 ≤ b ∧ b ≤ f 0 - 1) (a2 : 0 ≤ c ∧ c ≤ 1) (a3 : g 6 b = 0) (h1 : ¬ c = 1) (h : b2i (WC f g T b (g 3 b) (f 10)) = 0) : heardOk f g T b c := ⟨a1, a2, a3, h.trans (b2i_f h1).symm⟩
end P8
section Y8
variable {Γ : Gam} {A : Nat → Prop} {L : Nat → Nat} {f : Nat → Int32} {g : Nat → Int32 → Int32} {T : TX} {P : PH → Prop}
theorem c_Yimage {nb : Nat} (hn : nb ≤ 7) (e0 : f 0 = nI nb) : Ct Γ A yX8_image wX8_image 1 0 0 [.ref (L 40)] (YI Γ L f g T) (RI (YO Γ L T (oImage f g nb))) := by
  refine Ct.of (cc := cX8_image) (nL := 2) (ret := (some .int)) (ls := [some (.ref (L 40)), none]) rfl rfl rfl (nle rfl) ?_
  intro K hK hQ
  have loop : ∀ (n i : Nat), i + n = nb → J Γ A K 15 [some (.ref (L 40)), some (.int (nI i))] [] (YI Γ L (upd (upd f 33 1) 34 (f 0)) (imgL g i) T) 0 0 := by
    intro n
    induction n with
    | zero =>
      intro i hi
      have : i = nb := by omega
      subst this
      refine j_iload_n (pc := 15) hK dX8_image_15 rfl ?_
      refine j_aload_n (pc := 16) hK dX8_image_16 rfl ?_
      refine yi_getI (pc := 17) (k := 0) hK (by decide) rfl rfl q1240 rfl dX8_image_17 ?_
      refine j_icmp_ge (pc := 20) (tgt := 129) hK dX8_image_20 (by decide) (fun c20 => ?_) (fun c20 => absurd (by show f 0 ≤ _; rw [e0]; exact nI_le (by omega) (by omega)) c20)
      refine j_aload_n (pc := 129) hK dX8_image_129 rfl ?_
      refine yi_getR (pc := 130) (k := 35) hK (by decide) rfl q1275 rfl dX8_image_130 ?_
      refine j_bipush (pc := 133) (v := 42) hK dX8_image_133 (by decide) ?_
      refine j_aload_n (pc := 135) hK dX8_image_135 rfl ?_
      refine yi_getI (pc := 136) (k := 8) hK (by decide) rfl rfl q1248 rfl dX8_image_136 ?_
      refine yi_ast (pc := 139) (k := 35) hK rfl rfl (by decide) (by decide) (vp_in_c (by decide)) dX8_image_139 ?_
      refine j_aload_n (pc := 140) hK dX8_image_140 rfl ?_
      refine yi_getR (pc := 141) (k := 35) hK (by decide) rfl q1275 rfl dX8_image_141 ?_
      refine j_bipush (pc := 144) (v := 43) hK dX8_image_144 (by decide) ?_
      refine j_aload_n (pc := 146) hK dX8_image_146 rfl ?_
      refine yi_getI (pc := 147) (k := 9) hK (by decide) rfl rfl q1249 rfl dX8_image_147 ?_
      refine yi_ast (pc := 150) (k := 35) hK rfl rfl (by decide) (by decide) (vp_in_c (by decide)) dX8_image_150 ?_
      refine j_aload_n (pc := 151) hK dX8_image_151 rfl ?_
      refine yi_getR (pc := 152) (k := 35) hK (by decide) rfl q1275 rfl dX8_image_152 ?_
      refine j_bipush (pc := 155) (v := 44) hK dX8_image_155 (by decide) ?_
      refine j_aload_n (pc := 157) hK dX8_image_157 rfl ?_
      refine yi_getI (pc := 158) (k := 10) hK (by decide) rfl rfl q1250 rfl dX8_image_158 ?_
      refine yi_ast (pc := 161) (k := 35) hK rfl rfl (by decide) (by decide) (vp_in_c (by decide)) dX8_image_161 ?_
      refine j_aload_n (pc := 162) hK dX8_image_162 rfl ?_
      refine yi_getR (pc := 163) (k := 35) hK (by decide) rfl q1275 rfl dX8_image_163 ?_
      refine j_bipush (pc := 166) (v := 45) hK dX8_image_166 (by decide) ?_
      refine j_aload_n (pc := 168) hK dX8_image_168 rfl ?_
      refine yi_getI (pc := 169) (k := 11) hK (by decide) rfl rfl q1251 rfl dX8_image_169 ?_
      refine yi_ast (pc := 172) (k := 35) hK rfl rfl (by decide) (by decide) (vp_in_c (by decide)) dX8_image_172 ?_
      refine j_aload_n (pc := 173) hK dX8_image_173 rfl ?_
      refine yi_getR (pc := 174) (k := 35) hK (by decide) rfl q1275 rfl dX8_image_174 ?_
      refine j_bipush (pc := 177) (v := 46) hK dX8_image_177 (by decide) ?_
      refine j_aload_n (pc := 179) hK dX8_image_179 rfl ?_
      refine yi_getI (pc := 180) (k := 12) hK (by decide) rfl rfl q1252 rfl dX8_image_180 ?_
      refine yi_ast (pc := 183) (k := 35) hK rfl rfl (by decide) (by decide) (vp_in_c (by decide)) dX8_image_183 ?_
      refine j_aload_n (pc := 184) hK dX8_image_184 rfl ?_
      refine yi_getR (pc := 185) (k := 35) hK (by decide) rfl q1275 rfl dX8_image_185 ?_
      refine j_bipush (pc := 188) (v := 47) hK dX8_image_188 (by decide) ?_
      refine j_aload_n (pc := 190) hK dX8_image_190 rfl ?_
      refine yi_getI (pc := 191) (k := 13) hK (by decide) rfl rfl q1253 rfl dX8_image_191 ?_
      refine yi_ast (pc := 194) (k := 35) hK rfl rfl (by decide) (by decide) (vp_in_c (by decide)) dX8_image_194 ?_
      refine j_aload_n (pc := 195) hK dX8_image_195 rfl ?_
      refine yi_getR (pc := 196) (k := 35) hK (by decide) rfl q1275 rfl dX8_image_196 ?_
      refine j_bipush (pc := 199) (v := 48) hK dX8_image_199 (by decide) ?_
      refine j_aload_n (pc := 201) hK dX8_image_201 rfl ?_
      refine yi_getI (pc := 202) (k := 14) hK (by decide) rfl rfl q1254 rfl dX8_image_202 ?_
      refine yi_ast (pc := 205) (k := 35) hK rfl rfl (by decide) (by decide) (vp_in_c (by decide)) dX8_image_205 ?_
      refine j_aload_n (pc := 206) hK dX8_image_206 rfl ?_
      refine yi_getR (pc := 207) (k := 35) hK (by decide) rfl q1275 rfl dX8_image_207 ?_
      refine j_bipush (pc := 210) (v := 49) hK dX8_image_210 (by decide) ?_
      refine j_aload_n (pc := 212) hK dX8_image_212 rfl ?_
      refine yi_getI (pc := 213) (k := 18) hK (by decide) rfl rfl q1258 rfl dX8_image_213 ?_
      refine yi_ast (pc := 216) (k := 35) hK rfl rfl (by decide) (by decide) (vp_in_c (by decide)) dX8_image_216 ?_
      refine j_aload_n (pc := 217) hK dX8_image_217 rfl ?_
      refine yi_getI (pc := 218) (k := 0) hK (by decide) rfl rfl q1240 rfl dX8_image_218 ?_
      exact j_iret (pc := 221) hK hQ (nle rfl) (nle rfl) dX8_image_221 (fun h w => ⟨_, rfl, _, _, rfl, w⟩)
    | succ n ih =>
      intro i hi
      have hb : vp_in (nI i) 7 := vp_in_nI (by omega) (by decide)
      refine j_iload_n (pc := 15) hK dX8_image_15 rfl ?_
      refine j_aload_n (pc := 16) hK dX8_image_16 rfl ?_
      refine yi_getI (pc := 17) (k := 0) hK (by decide) rfl rfl q1240 rfl dX8_image_17 ?_
      refine j_icmp_ge (pc := 20) (tgt := 129) hK dX8_image_20 (by decide) (fun c20 => absurd c20 (by show ¬ f 0 ≤ _; rw [e0]; exact nI_ge (by omega) (by omega))) (fun c20 => ?_)
      refine j_aload_n (pc := 23) hK dX8_image_23 rfl ?_
      refine yi_getR (pc := 24) (k := 35) hK (by decide) rfl q1275 rfl dX8_image_24 ?_
      refine j_bipush (pc := 27) (v := 6) hK dX8_image_27 (by decide) ?_
      refine j_iload_n (pc := 29) hK dX8_image_29 rfl ?_
      refine j_imul (pc := 30) hK dX8_image_30 ?_
      refine j_aload_n (pc := 31) hK dX8_image_31 rfl ?_
      refine yi_getR (pc := 32) (k := 3) hK (by decide) rfl q1243 rfl dX8_image_32 ?_
      refine j_iload_n (pc := 35) hK dX8_image_35 rfl ?_
      refine yi_ald (pc := 36) (k := 3) hK rfl rfl (by first | assumption | exact vp_in_c (by decide)) dX8_image_36 ?_
      refine yi_ast (pc := 37) (k := 35) hK rfl rfl (by decide) (by decide) (six0 (by omega)) dX8_image_37 ?_
      refine j_aload_n (pc := 38) hK dX8_image_38 rfl ?_
      refine yi_getR (pc := 39) (k := 35) hK (by decide) rfl q1275 rfl dX8_image_39 ?_
      refine j_bipush (pc := 42) (v := 6) hK dX8_image_42 (by decide) ?_
      refine j_iload_n (pc := 44) hK dX8_image_44 rfl ?_
      refine j_imul (pc := 45) hK dX8_image_45 ?_
      refine j_iconst (pc := 46) (v := 1) hK dX8_image_46 (by decide) ?_
      refine j_iadd (pc := 47) hK dX8_image_47 ?_
      refine j_aload_n (pc := 48) hK dX8_image_48 rfl ?_
      refine yi_getR (pc := 49) (k := 4) hK (by decide) rfl q1244 rfl dX8_image_49 ?_
      refine j_iload_n (pc := 52) hK dX8_image_52 rfl ?_
      refine yi_ald (pc := 53) (k := 4) hK rfl rfl (by first | assumption | exact vp_in_c (by decide)) dX8_image_53 ?_
      refine yi_ast (pc := 54) (k := 35) hK rfl rfl (by decide) (by decide) (six_in (j := 1) (by omega) (by decide)) dX8_image_54 ?_
      refine j_aload_n (pc := 55) hK dX8_image_55 rfl ?_
      refine yi_getR (pc := 56) (k := 35) hK (by decide) rfl q1275 rfl dX8_image_56 ?_
      refine j_bipush (pc := 59) (v := 6) hK dX8_image_59 (by decide) ?_
      refine j_iload_n (pc := 61) hK dX8_image_61 rfl ?_
      refine j_imul (pc := 62) hK dX8_image_62 ?_
      refine j_iconst (pc := 63) (v := 2) hK dX8_image_63 (by decide) ?_
      refine j_iadd (pc := 64) hK dX8_image_64 ?_
      refine j_aload_n (pc := 65) hK dX8_image_65 rfl ?_
      refine yi_getR (pc := 66) (k := 5) hK (by decide) rfl q1245 rfl dX8_image_66 ?_
      refine j_iload_n (pc := 69) hK dX8_image_69 rfl ?_
      refine yi_ald (pc := 70) (k := 5) hK rfl rfl (by first | assumption | exact vp_in_c (by decide)) dX8_image_70 ?_
      refine yi_ast (pc := 71) (k := 35) hK rfl rfl (by decide) (by decide) (six_in (j := 2) (by omega) (by decide)) dX8_image_71 ?_
      refine j_aload_n (pc := 72) hK dX8_image_72 rfl ?_
      refine yi_getR (pc := 73) (k := 35) hK (by decide) rfl q1275 rfl dX8_image_73 ?_
      refine j_bipush (pc := 76) (v := 6) hK dX8_image_76 (by decide) ?_
      refine j_iload_n (pc := 78) hK dX8_image_78 rfl ?_
      refine j_imul (pc := 79) hK dX8_image_79 ?_
      refine j_iconst (pc := 80) (v := 3) hK dX8_image_80 (by decide) ?_
      refine j_iadd (pc := 81) hK dX8_image_81 ?_
      refine j_aload_n (pc := 82) hK dX8_image_82 rfl ?_
      refine yi_getR (pc := 83) (k := 2) hK (by decide) rfl q1242 rfl dX8_image_83 ?_
      refine j_iload_n (pc := 86) hK dX8_image_86 rfl ?_
      refine yi_ald (pc := 87) (k := 2) hK rfl rfl (by first | assumption | exact vp_in_c (by decide)) dX8_image_87 ?_
      refine yi_ast (pc := 88) (k := 35) hK rfl rfl (by decide) (by decide) (six_in (j := 3) (by omega) (by decide)) dX8_image_88 ?_
      refine j_aload_n (pc := 89) hK dX8_image_89 rfl ?_
      refine yi_getR (pc := 90) (k := 35) hK (by decide) rfl q1275 rfl dX8_image_90 ?_
      refine j_bipush (pc := 93) (v := 6) hK dX8_image_93 (by decide) ?_
      refine j_iload_n (pc := 95) hK dX8_image_95 rfl ?_
      refine j_imul (pc := 96) hK dX8_image_96 ?_
      refine j_iconst (pc := 97) (v := 4) hK dX8_image_97 (by decide) ?_
      refine j_iadd (pc := 98) hK dX8_image_98 ?_
      refine j_aload_n (pc := 99) hK dX8_image_99 rfl ?_
      refine yi_getR (pc := 100) (k := 6) hK (by decide) rfl q1246 rfl dX8_image_100 ?_
      refine j_iload_n (pc := 103) hK dX8_image_103 rfl ?_
      refine yi_ald (pc := 104) (k := 6) hK rfl rfl (by first | assumption | exact vp_in_c (by decide)) dX8_image_104 ?_
      refine yi_ast (pc := 105) (k := 35) hK rfl rfl (by decide) (by decide) (six_in (j := 4) (by omega) (by decide)) dX8_image_105 ?_
      refine j_aload_n (pc := 106) hK dX8_image_106 rfl ?_
      refine yi_getR (pc := 107) (k := 35) hK (by decide) rfl q1275 rfl dX8_image_107 ?_
      refine j_bipush (pc := 110) (v := 6) hK dX8_image_110 (by decide) ?_
      refine j_iload_n (pc := 112) hK dX8_image_112 rfl ?_
      refine j_imul (pc := 113) hK dX8_image_113 ?_
      refine j_iconst (pc := 114) (v := 5) hK dX8_image_114 (by decide) ?_
      refine j_iadd (pc := 115) hK dX8_image_115 ?_
      refine j_aload_n (pc := 116) hK dX8_image_116 rfl ?_
      refine yi_getR (pc := 117) (k := 7) hK (by decide) rfl q1247 rfl dX8_image_117 ?_
      refine j_iload_n (pc := 120) hK dX8_image_120 rfl ?_
      refine yi_ald (pc := 121) (k := 7) hK rfl rfl (by first | assumption | exact vp_in_c (by decide)) dX8_image_121 ?_
      refine yi_ast (pc := 122) (k := 35) hK rfl rfl (by decide) (by decide) (six_in (j := 5) (by omega) (by decide)) dX8_image_122 ?_
      refine j_iinc1 (pc := 123) (v := 1) hK dX8_image_123 (by decide) rfl (by decide) ?_
      refine j_goto (pc := 126) (tgt := 15) hK dX8_image_126 (by decide) ?_
      rw [nI_1]
      exact ih (i + 1) (by omega)
  refine j_aload_n (pc := 0) hK dX8_image_0 rfl ?_
  refine j_iconst (pc := 1) (v := 1) hK dX8_image_1 (by decide) ?_
  refine yi_putI (pc := 2) (k := 33) hK (by decide) rfl rfl (by decide) q1273 rfl rfl rfl rfl dX8_image_2 ?_
  refine j_aload_n (pc := 5) hK dX8_image_5 rfl ?_
  refine j_aload_n (pc := 6) hK dX8_image_6 rfl ?_
  refine yi_getI (pc := 7) (k := 0) hK (by decide) rfl rfl q1240 rfl dX8_image_7 ?_
  refine yi_putI (pc := 10) (k := 34) hK (by decide) rfl rfl (by decide) q1274 rfl rfl rfl rfl dX8_image_10 ?_
  refine j_iconst (pc := 13) (v := 0) hK dX8_image_13 (by decide) ?_
  refine j_ist1 (pc := 14) hK dX8_image_14 (by decide) rfl ?_
  exact loop nb 0 (by omega)
theorem c_Yback {nb : Nat} (hn : nb ≤ 7) (e0 : f 34 = nI nb) : Ct Γ A yX8_back wX8_back 1 0 0 [.ref (L 40)] (YI Γ L f g T) (RI (YO Γ L T (oBack f g nb))) := by
  refine Ct.of (cc := cX8_back) (nL := 2) (ret := (some .int)) (ls := [some (.ref (L 40)), none]) rfl rfl rfl (nle rfl) ?_
  intro K hK hQ
  have loop : ¬ f 33 = 0 → ∀ (n i : Nat), i + n = nb → J Γ A K 20 [some (.ref (L 40)), some (.int (nI i))] [] (YI Γ L (upd f 0 (f 34)) (bakL g i) T) 0 0 := by
    intro h33 n
    induction n with
    | zero =>
      intro i hi
      have : i = nb := by omega
      subst this
      refine j_iload_n (pc := 20) hK dX8_back_20 rfl ?_
      refine j_aload_n (pc := 21) hK dX8_back_21 rfl ?_
      refine yi_getI (pc := 22) (k := 0) hK (by decide) rfl rfl q1240 rfl dX8_back_22 ?_
      refine j_icmp_ge (pc := 25) (tgt := 134) hK dX8_back_25 (by decide) (fun c25 => ?_) (fun c25 => absurd (by show f 34 ≤ _; rw [e0]; exact nI_le (by omega) (by omega)) c25)
      refine j_aload_n (pc := 134) hK dX8_back_134 rfl ?_
      refine j_aload_n (pc := 135) hK dX8_back_135 rfl ?_
      refine yi_getR (pc := 136) (k := 35) hK (by decide) rfl q1275 rfl dX8_back_136 ?_
      refine j_bipush (pc := 139) (v := 42) hK dX8_back_139 (by decide) ?_
      refine yi_ald (pc := 141) (k := 35) hK rfl rfl (vp_in_c (by decide)) dX8_back_141 ?_
      refine yi_putI (pc := 142) (k := 8) hK (by decide) rfl rfl (by decide) q1248 rfl rfl rfl rfl dX8_back_142 ?_
      refine j_aload_n (pc := 145) hK dX8_back_145 rfl ?_
      refine j_aload_n (pc := 146) hK dX8_back_146 rfl ?_
      refine yi_getR (pc := 147) (k := 35) hK (by decide) rfl q1275 rfl dX8_back_147 ?_
      refine j_bipush (pc := 150) (v := 43) hK dX8_back_150 (by decide) ?_
      refine yi_ald (pc := 152) (k := 35) hK rfl rfl (vp_in_c (by decide)) dX8_back_152 ?_
      refine yi_putI (pc := 153) (k := 9) hK (by decide) rfl rfl (by decide) q1249 rfl rfl rfl rfl dX8_back_153 ?_
      refine j_aload_n (pc := 156) hK dX8_back_156 rfl ?_
      refine j_aload_n (pc := 157) hK dX8_back_157 rfl ?_
      refine yi_getR (pc := 158) (k := 35) hK (by decide) rfl q1275 rfl dX8_back_158 ?_
      refine j_bipush (pc := 161) (v := 44) hK dX8_back_161 (by decide) ?_
      refine yi_ald (pc := 163) (k := 35) hK rfl rfl (vp_in_c (by decide)) dX8_back_163 ?_
      refine yi_putI (pc := 164) (k := 10) hK (by decide) rfl rfl (by decide) q1250 rfl rfl rfl rfl dX8_back_164 ?_
      refine j_aload_n (pc := 167) hK dX8_back_167 rfl ?_
      refine j_aload_n (pc := 168) hK dX8_back_168 rfl ?_
      refine yi_getR (pc := 169) (k := 35) hK (by decide) rfl q1275 rfl dX8_back_169 ?_
      refine j_bipush (pc := 172) (v := 45) hK dX8_back_172 (by decide) ?_
      refine yi_ald (pc := 174) (k := 35) hK rfl rfl (vp_in_c (by decide)) dX8_back_174 ?_
      refine yi_putI (pc := 175) (k := 11) hK (by decide) rfl rfl (by decide) q1251 rfl rfl rfl rfl dX8_back_175 ?_
      refine j_aload_n (pc := 178) hK dX8_back_178 rfl ?_
      refine j_aload_n (pc := 179) hK dX8_back_179 rfl ?_
      refine yi_getR (pc := 180) (k := 35) hK (by decide) rfl q1275 rfl dX8_back_180 ?_
      refine j_bipush (pc := 183) (v := 46) hK dX8_back_183 (by decide) ?_
      refine yi_ald (pc := 185) (k := 35) hK rfl rfl (vp_in_c (by decide)) dX8_back_185 ?_
      refine yi_putI (pc := 186) (k := 12) hK (by decide) rfl rfl (by decide) q1252 rfl rfl rfl rfl dX8_back_186 ?_
      refine j_aload_n (pc := 189) hK dX8_back_189 rfl ?_
      refine j_aload_n (pc := 190) hK dX8_back_190 rfl ?_
      refine yi_getR (pc := 191) (k := 35) hK (by decide) rfl q1275 rfl dX8_back_191 ?_
      refine j_bipush (pc := 194) (v := 47) hK dX8_back_194 (by decide) ?_
      refine yi_ald (pc := 196) (k := 35) hK rfl rfl (vp_in_c (by decide)) dX8_back_196 ?_
      refine yi_putI (pc := 197) (k := 13) hK (by decide) rfl rfl (by decide) q1253 rfl rfl rfl rfl dX8_back_197 ?_
      refine j_aload_n (pc := 200) hK dX8_back_200 rfl ?_
      refine j_aload_n (pc := 201) hK dX8_back_201 rfl ?_
      refine yi_getR (pc := 202) (k := 35) hK (by decide) rfl q1275 rfl dX8_back_202 ?_
      refine j_bipush (pc := 205) (v := 48) hK dX8_back_205 (by decide) ?_
      refine yi_ald (pc := 207) (k := 35) hK rfl rfl (vp_in_c (by decide)) dX8_back_207 ?_
      refine yi_putI (pc := 208) (k := 14) hK (by decide) rfl rfl (by decide) q1254 rfl rfl rfl rfl dX8_back_208 ?_
      refine j_aload_n (pc := 211) hK dX8_back_211 rfl ?_
      refine j_aload_n (pc := 212) hK dX8_back_212 rfl ?_
      refine yi_getR (pc := 213) (k := 35) hK (by decide) rfl q1275 rfl dX8_back_213 ?_
      refine j_bipush (pc := 216) (v := 49) hK dX8_back_216 (by decide) ?_
      refine yi_ald (pc := 218) (k := 35) hK rfl rfl (vp_in_c (by decide)) dX8_back_218 ?_
      refine yi_putI (pc := 219) (k := 18) hK (by decide) rfl rfl (by decide) q1258 rfl rfl rfl rfl dX8_back_219 ?_
      refine j_aload_n (pc := 222) hK dX8_back_222 rfl ?_
      refine yi_getI (pc := 223) (k := 0) hK (by decide) rfl rfl q1240 rfl dX8_back_223 ?_
      exact j_iret (pc := 226) hK hQ (nle rfl) (nle rfl) dX8_back_226 (fun h w => ⟨_, rfl, _, _, by unfold oBack; rw [if_neg h33]; rfl, w⟩)
    | succ n ih =>
      intro i hi
      have hb : vp_in (nI i) 7 := vp_in_nI (by omega) (by decide)
      refine j_iload_n (pc := 20) hK dX8_back_20 rfl ?_
      refine j_aload_n (pc := 21) hK dX8_back_21 rfl ?_
      refine yi_getI (pc := 22) (k := 0) hK (by decide) rfl rfl q1240 rfl dX8_back_22 ?_
      refine j_icmp_ge (pc := 25) (tgt := 134) hK dX8_back_25 (by decide) (fun c25 => absurd c25 (by show ¬ f 34 ≤ _; rw [e0]; exact nI_ge (by omega) (by omega))) (fun c25 => ?_)
      refine j_aload_n (pc := 28) hK dX8_back_28 rfl ?_
      refine yi_getR (pc := 29) (k := 3) hK (by decide) rfl q1243 rfl dX8_back_29 ?_
      refine j_iload_n (pc := 32) hK dX8_back_32 rfl ?_
      refine j_aload_n (pc := 33) hK dX8_back_33 rfl ?_
      refine yi_getR (pc := 34) (k := 35) hK (by decide) rfl q1275 rfl dX8_back_34 ?_
      refine j_bipush (pc := 37) (v := 6) hK dX8_back_37 (by decide) ?_
      refine j_iload_n (pc := 39) hK dX8_back_39 rfl ?_
      refine j_imul (pc := 40) hK dX8_back_40 ?_
      refine yi_ald (pc := 41) (k := 35) hK rfl rfl (six0 (by omega)) dX8_back_41 ?_
      refine yi_ast (pc := 42) (k := 3) hK rfl rfl (by decide) (by decide) (by first | assumption | exact vp_in_c (by decide)) dX8_back_42 ?_
      refine j_aload_n (pc := 43) hK dX8_back_43 rfl ?_
      refine yi_getR (pc := 44) (k := 4) hK (by decide) rfl q1244 rfl dX8_back_44 ?_
      refine j_iload_n (pc := 47) hK dX8_back_47 rfl ?_
      refine j_aload_n (pc := 48) hK dX8_back_48 rfl ?_
      refine yi_getR (pc := 49) (k := 35) hK (by decide) rfl q1275 rfl dX8_back_49 ?_
      refine j_bipush (pc := 52) (v := 6) hK dX8_back_52 (by decide) ?_
      refine j_iload_n (pc := 54) hK dX8_back_54 rfl ?_
      refine j_imul (pc := 55) hK dX8_back_55 ?_
      refine j_iconst (pc := 56) (v := 1) hK dX8_back_56 (by decide) ?_
      refine j_iadd (pc := 57) hK dX8_back_57 ?_
      refine yi_ald (pc := 58) (k := 35) hK rfl rfl (six_in (j := 1) (by omega) (by decide)) dX8_back_58 ?_
      refine yi_ast (pc := 59) (k := 4) hK rfl rfl (by decide) (by decide) (by first | assumption | exact vp_in_c (by decide)) dX8_back_59 ?_
      refine j_aload_n (pc := 60) hK dX8_back_60 rfl ?_
      refine yi_getR (pc := 61) (k := 5) hK (by decide) rfl q1245 rfl dX8_back_61 ?_
      refine j_iload_n (pc := 64) hK dX8_back_64 rfl ?_
      refine j_aload_n (pc := 65) hK dX8_back_65 rfl ?_
      refine yi_getR (pc := 66) (k := 35) hK (by decide) rfl q1275 rfl dX8_back_66 ?_
      refine j_bipush (pc := 69) (v := 6) hK dX8_back_69 (by decide) ?_
      refine j_iload_n (pc := 71) hK dX8_back_71 rfl ?_
      refine j_imul (pc := 72) hK dX8_back_72 ?_
      refine j_iconst (pc := 73) (v := 2) hK dX8_back_73 (by decide) ?_
      refine j_iadd (pc := 74) hK dX8_back_74 ?_
      refine yi_ald (pc := 75) (k := 35) hK rfl rfl (six_in (j := 2) (by omega) (by decide)) dX8_back_75 ?_
      refine yi_ast (pc := 76) (k := 5) hK rfl rfl (by decide) (by decide) (by first | assumption | exact vp_in_c (by decide)) dX8_back_76 ?_
      refine j_aload_n (pc := 77) hK dX8_back_77 rfl ?_
      refine yi_getR (pc := 78) (k := 2) hK (by decide) rfl q1242 rfl dX8_back_78 ?_
      refine j_iload_n (pc := 81) hK dX8_back_81 rfl ?_
      refine j_aload_n (pc := 82) hK dX8_back_82 rfl ?_
      refine yi_getR (pc := 83) (k := 35) hK (by decide) rfl q1275 rfl dX8_back_83 ?_
      refine j_bipush (pc := 86) (v := 6) hK dX8_back_86 (by decide) ?_
      refine j_iload_n (pc := 88) hK dX8_back_88 rfl ?_
      refine j_imul (pc := 89) hK dX8_back_89 ?_
      refine j_iconst (pc := 90) (v := 3) hK dX8_back_90 (by decide) ?_
      refine j_iadd (pc := 91) hK dX8_back_91 ?_
      refine yi_ald (pc := 92) (k := 35) hK rfl rfl (six_in (j := 3) (by omega) (by decide)) dX8_back_92 ?_
      refine yi_ast (pc := 93) (k := 2) hK rfl rfl (by decide) (by decide) (by first | assumption | exact vp_in_c (by decide)) dX8_back_93 ?_
      refine j_aload_n (pc := 94) hK dX8_back_94 rfl ?_
      refine yi_getR (pc := 95) (k := 6) hK (by decide) rfl q1246 rfl dX8_back_95 ?_
      refine j_iload_n (pc := 98) hK dX8_back_98 rfl ?_
      refine j_aload_n (pc := 99) hK dX8_back_99 rfl ?_
      refine yi_getR (pc := 100) (k := 35) hK (by decide) rfl q1275 rfl dX8_back_100 ?_
      refine j_bipush (pc := 103) (v := 6) hK dX8_back_103 (by decide) ?_
      refine j_iload_n (pc := 105) hK dX8_back_105 rfl ?_
      refine j_imul (pc := 106) hK dX8_back_106 ?_
      refine j_iconst (pc := 107) (v := 4) hK dX8_back_107 (by decide) ?_
      refine j_iadd (pc := 108) hK dX8_back_108 ?_
      refine yi_ald (pc := 109) (k := 35) hK rfl rfl (six_in (j := 4) (by omega) (by decide)) dX8_back_109 ?_
      refine yi_ast (pc := 110) (k := 6) hK rfl rfl (by decide) (by decide) (by first | assumption | exact vp_in_c (by decide)) dX8_back_110 ?_
      refine j_aload_n (pc := 111) hK dX8_back_111 rfl ?_
      refine yi_getR (pc := 112) (k := 7) hK (by decide) rfl q1247 rfl dX8_back_112 ?_
      refine j_iload_n (pc := 115) hK dX8_back_115 rfl ?_
      refine j_aload_n (pc := 116) hK dX8_back_116 rfl ?_
      refine yi_getR (pc := 117) (k := 35) hK (by decide) rfl q1275 rfl dX8_back_117 ?_
      refine j_bipush (pc := 120) (v := 6) hK dX8_back_120 (by decide) ?_
      refine j_iload_n (pc := 122) hK dX8_back_122 rfl ?_
      refine j_imul (pc := 123) hK dX8_back_123 ?_
      refine j_iconst (pc := 124) (v := 5) hK dX8_back_124 (by decide) ?_
      refine j_iadd (pc := 125) hK dX8_back_125 ?_
      refine yi_ald (pc := 126) (k := 35) hK rfl rfl (six_in (j := 5) (by omega) (by decide)) dX8_back_126 ?_
      refine yi_ast (pc := 127) (k := 7) hK rfl rfl (by decide) (by decide) (by first | assumption | exact vp_in_c (by decide)) dX8_back_127 ?_
      refine j_iinc1 (pc := 128) (v := 1) hK dX8_back_128 (by decide) rfl (by decide) ?_
      refine j_goto (pc := 131) (tgt := 20) hK dX8_back_131 (by decide) ?_
      rw [nI_1]
      exact ih (i + 1) (by omega)
  refine j_aload_n (pc := 0) hK dX8_back_0 rfl ?_
  refine yi_getI (pc := 1) (k := 33) hK (by decide) rfl rfl q1273 rfl dX8_back_1 ?_
  refine j_if_ne (pc := 4) (tgt := 10) hK dX8_back_4 (by decide) (fun c4 => ?_) (fun c4 => ?_)
  · refine j_aload_n (pc := 10) hK dX8_back_10 rfl ?_
    refine j_aload_n (pc := 11) hK dX8_back_11 rfl ?_
    refine yi_getI (pc := 12) (k := 34) hK (by decide) rfl rfl q1274 rfl dX8_back_12 ?_
    refine yi_putI (pc := 15) (k := 0) hK (by decide) rfl rfl (by decide) q1240 rfl rfl rfl rfl dX8_back_15 ?_
    refine j_iconst (pc := 18) (v := 0) hK dX8_back_18 (by decide) ?_
    refine j_ist1 (pc := 19) hK dX8_back_19 (by decide) rfl ?_
    exact loop c4 nb 0 (by omega)
  · refine j_bipush (pc := 7) (v := (-3)) hK dX8_back_7 (by decide) ?_
    exact j_iret (pc := 9) hK hQ (nle rfl) (nle rfl) dX8_back_9 (fun h w => ⟨_, rfl, _, _, by unfold oBack; rw [if_pos c4], w⟩)
theorem c_Ywhere (b y : Int32) (h0 : 0 ≤ f 0) (h7 : f 0 ≤ 7) (ho : OkR f T) : Ct Γ A yX8_where wX8_where 4 0 0 [.ref (L 40), .int b, .int y] (YI Γ L f g T) (RI fun r h => r = oWhere f g T b y ∧ YI Γ L f g T h) := by
  refine Ct.of (cc := cX8_where) (nL := 5) (ret := (some .int)) (ls := [some (.ref (L 40)), some (.int b), some (.int y), none, none]) rfl rfl rfl (nle rfl) ?_
  intro K hK hQ
  have loop : vp_in b 7 → oWhere f g T b y = whL f g T b y 8 → ∀ (n i : Nat), i + n = 8 → J Γ A K 25 [some (.ref (L 40)), some (.int b), some (.int y), some (.int (whL f g T b y i)), some (.int (nI i))] [] (YI Γ L f g T) 0 0 := by
    intro hb hq n
    induction n with
    | zero =>
      intro i hi
      have : i = 8 := by omega
      subst this
      refine j_iload (pc := 25) hK dX8_where_25 rfl ?_
      refine j_bipush (pc := 27) (v := 8) hK dX8_where_27 (by decide) ?_
      refine j_icmp_ge (pc := 29) (tgt := 64) hK dX8_where_29 (by decide) (fun c29 => ?_) (fun c29 => absurd (by decide) c29)
      refine j_iload_n (pc := 64) hK dX8_where_64 rfl ?_
      exact j_iret (pc := 65) hK hQ (nle rfl) (nle rfl) dX8_where_65 (fun h w => ⟨_, rfl, hq.symm, w⟩)
    | succ n ih =>
      intro i hi
      refine j_iload (pc := 25) hK dX8_where_25 rfl ?_
      refine j_bipush (pc := 27) (v := 8) hK dX8_where_27 (by decide) ?_
      refine j_icmp_ge (pc := 29) (tgt := 64) hK dX8_where_29 (by decide) (fun c29 => absurd c29 (by rw [show (8 : Int32) = nI 8 by decide]; exact nI_ge (by omega) (by decide))) (fun c29 => ?_)
      refine j_aload_n (pc := 32) hK dX8_where_32 rfl ?_
      refine j_iload_n (pc := 33) hK dX8_where_33 rfl ?_
      refine j_bipush (pc := 34) (v := 8) hK dX8_where_34 (by decide) ?_
      refine j_iload_n (pc := 36) hK dX8_where_36 rfl ?_
      refine j_imul (pc := 37) hK dX8_where_37 ?_
      refine j_iload (pc := 38) hK dX8_where_38 rfl ?_
      refine j_iadd (pc := 40) hK dX8_where_40 ?_
      refine j_aload_n (pc := 41) hK dX8_where_41 rfl ?_
      refine yi_getI (pc := 42) (k := 10) hK (by decide) rfl rfl q1250 rfl dX8_where_42 ?_
      refine j_callV (pc := 45) hK hQ (c_Ywould2 _ _ _ (by assumption) ho) cal_X8_would_2 yi_isC q1391 dX8_where_45 rfl rfl (nle rfl) (nle rfl) (nle rfl) (nle rfl) (kr_i fun r45 => ?_) kx_i
      refine J.pre fun e45 => ?_
      subst e45
      refine j_if_eq_b (pc := 48) (tgt := 58) hK dX8_where_48 (by decide) (fun c48 => ?_) (fun c48 => ?_)
      · refine j_iinc4 (pc := 58) (v := 1) hK dX8_where_58 (by decide) rfl (by decide) ?_
        refine j_goto (pc := 61) (tgt := 25) hK dX8_where_61 (by decide) ?_
        rw [nI_1]
        first | rw [← whL_t c48] | rw [← whL_f c48]
        exact ih (i + 1) (by omega)
      · refine j_iload_n (pc := 51) hK dX8_where_51 rfl ?_
        refine j_iconst (pc := 52) (v := 1) hK dX8_where_52 (by decide) ?_
        refine j_iload (pc := 53) hK dX8_where_53 rfl ?_
        refine j_ishl (pc := 55) hK dX8_where_55 ?_
        refine j_ior (pc := 56) hK dX8_where_56 ?_
        refine j_ist3 (pc := 57) hK dX8_where_57 (by decide) rfl ?_
        refine j_iinc4 (pc := 58) (v := 1) hK dX8_where_58 (by decide) rfl (by decide) ?_
        refine j_goto (pc := 61) (tgt := 25) hK dX8_where_61 (by decide) ?_
        rw [nI_1]
        first | rw [← whL_t c48] | rw [← whL_f c48]
        exact ih (i + 1) (by omega)
  refine j_aload_n (pc := 0) hK dX8_where_0 rfl ?_
  refine j_iload_n (pc := 1) hK dX8_where_1 rfl ?_
  refine j_callV (pc := 2) hK hQ (c_YisBoat _) cal_X8_isBoat yi_isC q1370 dX8_where_2 rfl rfl (nle rfl) (nle rfl) (nle rfl) (nle rfl) (kr_i fun r2 => ?_) kx_i
  refine J.pre fun e2 => ?_
  subst e2
  refine j_if_eq_b (pc := 5) (tgt := 17) hK dX8_where_5 (by decide) (fun c5 => ?_) (fun c5 => ?_)
  · refine j_bipush (pc := 17) (v := (-2)) hK dX8_where_17 (by decide) ?_
    exact j_iret (pc := 19) hK hQ (nle rfl) (nle rfl) dX8_where_19 (fun h w => ⟨_, rfl, by unfold oWhere; first | rw [if_pos c5] | rw [if_neg (fun z => z c5), if_pos c14], w⟩)
  · refine j_iload_n (pc := 8) hK dX8_where_8 rfl ?_
    refine j_iconst (pc := 9) (v := 0) hK dX8_where_9 (by decide) ?_
    refine j_iconst (pc := 10) (v := 5) hK dX8_where_10 (by decide) ?_
    refine j_callS (pc := 11) hK hQ (c_Ywithin _ _ _) cal_X8_within q1167 dX8_where_11 rfl rfl (nle rfl) (nle rfl) (nle rfl) (nle rfl) (kr_i fun r11 => ?_) kx_i
    refine J.pre fun e11 => ?_
    subst e11
    refine j_if_ne_b (pc := 14) (tgt := 20) hK dX8_where_14 (by decide) (fun c14 => ?_) (fun c14 => ?_)
    · refine j_iconst (pc := 20) (v := 0) hK dX8_where_20 (by decide) ?_
      refine j_ist3 (pc := 21) hK dX8_where_21 (by decide) rfl ?_
      refine j_iconst (pc := 22) (v := 0) hK dX8_where_22 (by decide) ?_
      refine j_ist4 (pc := 23) hK dX8_where_23 (by decide) rfl ?_
      exact loop (bo_in c5 h0 h7) (by unfold oWhere; rw [if_neg (fun z => z c5), if_neg (fun z => z c14)]) 8 0 (by omega)
    · refine j_bipush (pc := 17) (v := (-2)) hK dX8_where_17 (by decide) ?_
      exact j_iret (pc := 19) hK hQ (nle rfl) (nle rfl) dX8_where_19 (fun h w => ⟨_, rfl, by unfold oWhere; first | rw [if_pos c5] | rw [if_neg (fun z => z c5), if_pos c14], w⟩)
theorem c_Ydrawn (seed : Int32) {nb : Nat} (hn : nb ≤ 7) (e0 : f 0 = nI nb) (ho : OkR f T) : Ct Γ A yX8_drawn wX8_drawn 5 0 0 [.ref (L 40), .int seed] (YI Γ L f g T) (RI fun r h => r = oDrawn f g T nb seed ∧ YI Γ L f g T h) := by
  refine Ct.of (cc := cX8_drawn) (nL := 5) (ret := (some .int)) (ls := [some (.ref (L 40)), some (.int seed), none, none, none]) rfl rfl rfl (nle rfl) ?_
  intro K hK hQ
  have ho : OkR (upd f 9 (windI seed)) T := ho.upd _ (by decide) (by decide)
  have loop : ∀ (n i : Nat), i + n = nb → J Γ A K 29 [some (.ref (L 40)), some (.int seed), some (.int (f 9)), some (.int (cntW (upd f 9 (windI seed)) g T i)), some (.int (nI i))] [] (YI Γ L (upd f 9 (windI seed)) g T) 0 0 := by
    intro n
    induction n with
    | zero =>
      intro i hi
      have : i = nb := by omega
      subst this
      refine j_iload (pc := 29) hK dX8_drawn_29 rfl ?_
      refine j_aload_n (pc := 31) hK dX8_drawn_31 rfl ?_
      refine yi_getI (pc := 32) (k := 0) hK (by decide) rfl rfl q1240 rfl dX8_drawn_32 ?_
      refine j_icmp_ge (pc := 35) (tgt := 66) hK dX8_drawn_35 (by decide) (fun c35 => ?_) (fun c35 => absurd (by show f 0 ≤ _; rw [e0]; exact nI_le (by omega) (by omega)) c35)
      refine j_aload_n (pc := 66) hK dX8_drawn_66 rfl ?_
      refine j_iload_n (pc := 67) hK dX8_drawn_67 rfl ?_
      refine yi_putI (pc := 68) (k := 9) hK (by decide) rfl rfl (by decide) q1249 rfl rfl rfl rfl dX8_drawn_68 ?_
      refine j_iload_n (pc := 71) hK dX8_drawn_71 rfl ?_
      exact j_iret (pc := 72) hK hQ (nle rfl) (nle rfl) dX8_drawn_72 (fun h w => ⟨_, rfl, rfl, by rw [upd_back] at w; exact w⟩)
    | succ n ih =>
      intro i hi
      have hb : vp_in (nI i) 7 := vp_in_nI (by omega) (by decide)
      refine j_iload (pc := 29) hK dX8_drawn_29 rfl ?_
      refine j_aload_n (pc := 31) hK dX8_drawn_31 rfl ?_
      refine yi_getI (pc := 32) (k := 0) hK (by decide) rfl rfl q1240 rfl dX8_drawn_32 ?_
      refine j_icmp_ge (pc := 35) (tgt := 66) hK dX8_drawn_35 (by decide) (fun c35 => absurd c35 (by show ¬ f 0 ≤ _; rw [e0]; exact nI_ge (by omega) (by omega))) (fun c35 => ?_)
      refine j_aload_n (pc := 38) hK dX8_drawn_38 rfl ?_
      refine yi_getR (pc := 39) (k := 6) hK (by decide) rfl q1246 rfl dX8_drawn_39 ?_
      refine j_iload (pc := 42) hK dX8_drawn_42 rfl ?_
      refine yi_ald (pc := 44) (k := 6) hK rfl rfl (by first | assumption | exact vp_in_c (by decide)) dX8_drawn_44 ?_
      refine j_if_ne (pc := 45) (tgt := 60) hK dX8_drawn_45 (by decide) (fun c45 => ?_) (fun c45 => ?_)
      · refine j_iinc4 (pc := 60) (v := 1) hK dX8_drawn_60 (by decide) rfl (by decide) ?_
        refine j_goto (pc := 63) (tgt := 29) hK dX8_drawn_63 (by decide) ?_
        rw [nI_1]
        first | rw [← cntW_n1 c45] | rw [← cntW_n2 c54] | rw [← cntW_p c45 c54]
        exact ih (i + 1) (by omega)
      · refine j_aload_n (pc := 48) hK dX8_drawn_48 rfl ?_
        refine j_iload (pc := 49) hK dX8_drawn_49 rfl ?_
        refine j_callV (pc := 51) hK hQ (c_Ywould _ (by assumption) ho) cal_X8_would yi_isC q1387 dX8_drawn_51 rfl rfl (nle rfl) (nle rfl) (nle rfl) (nle rfl) (kr_i fun r51 => ?_) kx_i
        refine J.pre fun e51 => ?_
        subst e51
        refine j_if_eq_b (pc := 54) (tgt := 60) hK dX8_drawn_54 (by decide) (fun c54 => ?_) (fun c54 => ?_)
        · refine j_iinc4 (pc := 60) (v := 1) hK dX8_drawn_60 (by decide) rfl (by decide) ?_
          refine j_goto (pc := 63) (tgt := 29) hK dX8_drawn_63 (by decide) ?_
          rw [nI_1]
          first | rw [← cntW_n1 c45] | rw [← cntW_n2 c54] | rw [← cntW_p c45 c54]
          exact ih (i + 1) (by omega)
        · refine j_iinc3 (pc := 57) (v := 1) hK dX8_drawn_57 (by decide) rfl (by decide) ?_
          refine j_iinc4 (pc := 60) (v := 1) hK dX8_drawn_60 (by decide) rfl (by decide) ?_
          refine j_goto (pc := 63) (tgt := 29) hK dX8_drawn_63 (by decide) ?_
          rw [nI_1]
          first | rw [← cntW_n1 c45] | rw [← cntW_n2 c54] | rw [← cntW_p c45 c54]
          exact ih (i + 1) (by omega)
  refine j_aload_n (pc := 0) hK dX8_drawn_0 rfl ?_
  refine yi_getI (pc := 1) (k := 9) hK (by decide) rfl rfl q1249 rfl dX8_drawn_1 ?_
  refine j_ist2 (pc := 4) hK dX8_drawn_4 (by decide) rfl ?_
  refine j_aload_n (pc := 5) hK dX8_drawn_5 rfl ?_
  refine j_iload_n (pc := 6) hK dX8_drawn_6 rfl ?_
  refine j_ldcw (pc := 7) hK q1496 dX8_drawn_7 ?_
  refine j_imul (pc := 10) hK dX8_drawn_10 ?_
  refine j_sipush (pc := 11) (v := 12345) hK dX8_drawn_11 (by decide) ?_
  refine j_iadd (pc := 14) hK dX8_drawn_14 ?_
  refine j_bipush (pc := 15) (v := 10) hK dX8_drawn_15 (by decide) ?_
  refine j_iushr (pc := 17) hK dX8_drawn_17 ?_
  refine j_bipush (pc := 18) (v := 10) hK dX8_drawn_18 (by decide) ?_
  refine j_irem (pc := 20) hK dX8_drawn_20 (by decide) ?_
  refine yi_putI (pc := 21) (k := 9) hK (by decide) rfl rfl (by decide) q1249 rfl rfl rfl rfl dX8_drawn_21 ?_
  refine j_iconst (pc := 24) (v := 0) hK dX8_drawn_24 (by decide) ?_
  refine j_ist3 (pc := 25) hK dX8_drawn_25 (by decide) rfl ?_
  refine j_iconst (pc := 26) (v := 0) hK dX8_drawn_26 (by decide) ?_
  refine j_ist4 (pc := 27) hK dX8_drawn_27 (by decide) rfl ?_
  exact loop nb 0 (by omega)
theorem c_Yheard (s : Int32) (h0 : 0 ≤ f 0) (h7 : f 0 ≤ 7) (ho : OkR f T) (hz : ∀ s, 0 ≤ s → s ≤ 3 → 0 ≤ g 37 s ∧ g 37 s ≤ 40) : Ct Γ A yX8_heard wX8_heard 5 0 0 [.ref (L 40), .int s] (YI Γ L f g T) (RI fun r h => r = oHeard f g T s ∧ YI Γ L f g T h) := by
  refine Ct.of (cc := cX8_heard) (nL := 6) (ret := (some .int)) (ls := [some (.ref (L 40)), some (.int s), none, none, none, none]) rfl rfl rfl (nle rfl) ?_
  intro K hK hQ
  have loop : (0 ≤ s ∧ s ≤ 3) → ∀ sz : Nat, sz ≤ 40 → ∀ (r i : Nat), i + r = sz / 2 → heardL f g T s r i = oHeard f g T s → J Γ A K 44 [some (.ref (L 40)), some (.int s), some (.int (nI sz)), some (.int (nI i)), none, none] [] (YI Γ L f g T) 0 0 := by
    intro hs sz hsz r
    induction r with
    | zero =>
      intro i hi hp
      refine j_iload_n (pc := 44) hK dX8_heard_44 rfl ?_
      refine j_iload_n (pc := 45) hK dX8_heard_45 rfl ?_
      refine j_iconst (pc := 46) (v := 2) hK dX8_heard_46 (by decide) ?_
      refine j_idiv (pc := 47) hK dX8_heard_47 (by decide) ?_
      refine j_icmp_ge (pc := 48) (tgt := 140) hK dX8_heard_48 (by decide) (fun c48 => ?_) (fun c48 => absurd (by rw [show (2 : Int32) = nI 2 by decide, pk_div (by omega) (by decide) (by decide)]; exact nI_le (by omega) (by omega)) c48)
      refine j_iconst (pc := 140) (v := (-1)) hK dX8_heard_140 (by decide) ?_
      exact j_iret (pc := 141) hK hQ (nle rfl) (nle rfl) dX8_heard_141 (fun h w => ⟨_, rfl, hp, w⟩)
    | succ r ih =>
      intro i hi hp
      have e2 : 2 * nI i = nI (2 * i) := by rw [show (2 : Int32) = nI 2 by decide, pk_mul]
      have hb1 : vp_in (40 * s + 2 * nI i) 160 := by rw [e2]; exact it_in hs (by omega)
      have hb2 : vp_in (40 * s + 2 * nI i + 1) 160 := by
        obtain ⟨k, hk, -, e⟩ := it_nI hs
        rw [e2, e, nI_1]
        exact vp_in_nI (by omega) (by decide)
      refine j_iload_n (pc := 44) hK dX8_heard_44 rfl ?_
      refine j_iload_n (pc := 45) hK dX8_heard_45 rfl ?_
      refine j_iconst (pc := 46) (v := 2) hK dX8_heard_46 (by decide) ?_
      refine j_idiv (pc := 47) hK dX8_heard_47 (by decide) ?_
      refine j_icmp_ge (pc := 48) (tgt := 140) hK dX8_heard_48 (by decide) (fun c48 => absurd c48 (by rw [show (2 : Int32) = nI 2 by decide, pk_div (by omega) (by decide) (by decide)]; exact nI_ge (by omega) (by omega))) (fun c48 => ?_)
      refine j_aload_n (pc := 51) hK dX8_heard_51 rfl ?_
      refine yi_getR (pc := 52) (k := 38) hK (by decide) rfl q1278 rfl dX8_heard_52 ?_
      refine j_bipush (pc := 55) (v := 40) hK dX8_heard_55 (by decide) ?_
      refine j_iload_n (pc := 57) hK dX8_heard_57 rfl ?_
      refine j_imul (pc := 58) hK dX8_heard_58 ?_
      refine j_iconst (pc := 59) (v := 2) hK dX8_heard_59 (by decide) ?_
      refine j_iload_n (pc := 60) hK dX8_heard_60 rfl ?_
      refine j_imul (pc := 61) hK dX8_heard_61 ?_
      refine j_iadd (pc := 62) hK dX8_heard_62 ?_
      refine yi_ald (pc := 63) (k := 38) hK rfl rfl (by first | assumption | exact vp_in_c (by decide)) dX8_heard_63 ?_
      refine j_ist4 (pc := 64) hK dX8_heard_64 (by decide) rfl ?_
      refine j_aload_n (pc := 66) hK dX8_heard_66 rfl ?_
      refine yi_getR (pc := 67) (k := 38) hK (by decide) rfl q1278 rfl dX8_heard_67 ?_
      refine j_bipush (pc := 70) (v := 40) hK dX8_heard_70 (by decide) ?_
      refine j_iload_n (pc := 72) hK dX8_heard_72 rfl ?_
      refine j_imul (pc := 73) hK dX8_heard_73 ?_
      refine j_iconst (pc := 74) (v := 2) hK dX8_heard_74 (by decide) ?_
      refine j_iload_n (pc := 75) hK dX8_heard_75 rfl ?_
      refine j_imul (pc := 76) hK dX8_heard_76 ?_
      refine j_iadd (pc := 77) hK dX8_heard_77 ?_
      refine j_iconst (pc := 78) (v := 1) hK dX8_heard_78 (by decide) ?_
      refine j_iadd (pc := 79) hK dX8_heard_79 ?_
      refine yi_ald (pc := 80) (k := 38) hK rfl rfl (by first | assumption | exact vp_in_c (by decide)) dX8_heard_80 ?_
      refine j_ist5 (pc := 81) hK dX8_heard_81 (by decide) rfl ?_
      refine j_aload_n (pc := 83) hK dX8_heard_83 rfl ?_
      refine j_iload (pc := 84) hK dX8_heard_84 rfl ?_
      refine j_callV (pc := 86) hK hQ (c_YisBoat _) cal_X8_isBoat yi_isC q1370 dX8_heard_86 rfl rfl (nle rfl) (nle rfl) (nle rfl) (nle rfl) (kr_i fun r86 => ?_) kx_i
      refine J.pre fun e86 => ?_
      subst e86
      refine j_if_eq_b (pc := 89) (tgt := 132) hK dX8_heard_89 (by decide) (fun c89 => ?_) (fun c89 => ?_)
      · refine j_iload_n (pc := 132) hK dX8_heard_132 rfl ?_
        exact j_iret (pc := 133) hK hQ (nle rfl) (nle rfl) dX8_heard_133 (fun h w => ⟨_, rfl, by rw [← hp]; exact (if_neg (by first | exact hd_a c89 | exact hd_b c99 | exact hd_c c109 | exact hd_d c121 c129 | exact hd_e c121 c129)).symm, w⟩)
      · have hb := bo_in c89 h0 h7
        refine j_iload (pc := 92) hK dX8_heard_92 rfl ?_
        refine j_iconst (pc := 94) (v := 0) hK dX8_heard_94 (by decide) ?_
        refine j_iconst (pc := 95) (v := 1) hK dX8_heard_95 (by decide) ?_
        refine j_callS (pc := 96) hK hQ (c_Ywithin _ _ _) cal_X8_within q1167 dX8_heard_96 rfl rfl (nle rfl) (nle rfl) (nle rfl) (nle rfl) (kr_i fun r96 => ?_) kx_i
        refine J.pre fun e96 => ?_
        subst e96
        refine j_if_eq_b (pc := 99) (tgt := 132) hK dX8_heard_99 (by decide) (fun c99 => ?_) (fun c99 => ?_)
        · refine j_iload_n (pc := 132) hK dX8_heard_132 rfl ?_
          exact j_iret (pc := 133) hK hQ (nle rfl) (nle rfl) dX8_heard_133 (fun h w => ⟨_, rfl, by rw [← hp]; exact (if_neg (by first | exact hd_a c89 | exact hd_b c99 | exact hd_c c109 | exact hd_d c121 c129 | exact hd_e c121 c129)).symm, w⟩)
        · refine j_aload_n (pc := 102) hK dX8_heard_102 rfl ?_
          refine yi_getR (pc := 103) (k := 6) hK (by decide) rfl q1246 rfl dX8_heard_103 ?_
          refine j_iload (pc := 106) hK dX8_heard_106 rfl ?_
          refine yi_ald (pc := 108) (k := 6) hK rfl rfl (by first | assumption | exact vp_in_c (by decide)) dX8_heard_108 ?_
          refine j_if_ne (pc := 109) (tgt := 132) hK dX8_heard_109 (by decide) (fun c109 => ?_) (fun c109 => ?_)
          · refine j_iload_n (pc := 132) hK dX8_heard_132 rfl ?_
            exact j_iret (pc := 133) hK hQ (nle rfl) (nle rfl) dX8_heard_133 (fun h w => ⟨_, rfl, by rw [← hp]; exact (if_neg (by first | exact hd_a c89 | exact hd_b c99 | exact hd_c c109 | exact hd_d c121 c129 | exact hd_e c121 c129)).symm, w⟩)
          · refine j_aload_n (pc := 112) hK dX8_heard_112 rfl ?_
            refine j_iload (pc := 113) hK dX8_heard_113 rfl ?_
            refine j_callV (pc := 115) hK hQ (c_Ywould _ (by assumption) ho) cal_X8_would yi_isC q1387 dX8_heard_115 rfl rfl (nle rfl) (nle rfl) (nle rfl) (nle rfl) (kr_i fun r115 => ?_) kx_i
            refine J.pre fun e115 => ?_
            subst e115
            refine j_iload (pc := 118) hK dX8_heard_118 rfl ?_
            refine j_iconst (pc := 120) (v := 1) hK dX8_heard_120 (by decide) ?_
            refine j_icmp_ne (pc := 121) (tgt := 128) hK dX8_heard_121 (by decide) (fun c121 => ?_) (fun c121 => ?_)
            · refine j_iconst (pc := 128) (v := 0) hK dX8_heard_128 (by decide) ?_
              refine j_icmp_eq (pc := 129) (tgt := 134) hK dX8_heard_129 (by decide) (fun c129 => ?_) (fun c129 => ?_)
              · refine j_iinc3 (pc := 134) (v := 1) hK dX8_heard_134 (by decide) rfl (by decide) ?_
                refine j_goto (pc := 137) (tgt := 44) hK dX8_heard_137 (by decide) ?_
                rw [nI_1]
                refine J.fg _ ?_ (ih (i + 1) (by omega) (by rw [← hp]; exact (if_pos (by first | exact hd_y1 c89 c99 c109 c121 c129 | exact hd_y2 c89 c99 c109 c121 c129)).symm))
                exact ⟨rfl, rfl, rfl, rfl, trivial⟩
              · refine j_iload_n (pc := 132) hK dX8_heard_132 rfl ?_
                exact j_iret (pc := 133) hK hQ (nle rfl) (nle rfl) dX8_heard_133 (fun h w => ⟨_, rfl, by rw [← hp]; exact (if_neg (by first | exact hd_a c89 | exact hd_b c99 | exact hd_c c109 | exact hd_d c121 c129 | exact hd_e c121 c129)).symm, w⟩)
            · refine j_iconst (pc := 124) (v := 1) hK dX8_heard_124 (by decide) ?_
              refine j_goto (pc := 125) (tgt := 129) hK dX8_heard_125 (by decide) ?_
              refine j_icmp_eq (pc := 129) (tgt := 134) hK dX8_heard_129 (by decide) (fun c129 => ?_) (fun c129 => ?_)
              · refine j_iinc3 (pc := 134) (v := 1) hK dX8_heard_134 (by decide) rfl (by decide) ?_
                refine j_goto (pc := 137) (tgt := 44) hK dX8_heard_137 (by decide) ?_
                rw [nI_1]
                refine J.fg _ ?_ (ih (i + 1) (by omega) (by rw [← hp]; exact (if_pos (by first | exact hd_y1 c89 c99 c109 c121 c129 | exact hd_y2 c89 c99 c109 c121 c129)).symm))
                exact ⟨rfl, rfl, rfl, rfl, trivial⟩
              · refine j_iload_n (pc := 132) hK dX8_heard_132 rfl ?_
                exact j_iret (pc := 133) hK hQ (nle rfl) (nle rfl) dX8_heard_133 (fun h w => ⟨_, rfl, by rw [← hp]; exact (if_neg (by first | exact hd_a c89 | exact hd_b c99 | exact hd_c c109 | exact hd_d c121 c129 | exact hd_e c121 c129)).symm, w⟩)
  refine j_iload_n (pc := 0) hK dX8_heard_0 rfl ?_
  refine j_iconst (pc := 1) (v := 0) hK dX8_heard_1 (by decide) ?_
  refine j_iconst (pc := 2) (v := 3) hK dX8_heard_2 (by decide) ?_
  refine j_callS (pc := 3) hK hQ (c_Ywithin _ _ _) cal_X8_within q1167 dX8_heard_3 rfl rfl (nle rfl) (nle rfl) (nle rfl) (nle rfl) (kr_i fun r3 => ?_) kx_i
  refine J.pre fun e3 => ?_
  subst e3
  refine j_if_ne_b (pc := 6) (tgt := 12) hK dX8_heard_6 (by decide) (fun c6 => ?_) (fun c6 => ?_)
  · have hb := sh_in c6
    obtain ⟨z1, z2⟩ := hz s c6.1 c6.2
    obtain ⟨sz, hsz, esz⟩ := nI_of2 (x := g 37 s) (M := 40) (n := 40) (by decide) (Int32.not_lt.mpr z1) z2
    refine j_aload_n (pc := 12) hK dX8_heard_12 rfl ?_
    refine yi_getR (pc := 13) (k := 36) hK (by decide) rfl q1276 rfl dX8_heard_13 ?_
    refine j_iload_n (pc := 16) hK dX8_heard_16 rfl ?_
    refine yi_ald (pc := 17) (k := 36) hK rfl rfl (by first | assumption | exact vp_in_c (by decide)) dX8_heard_17 ?_
    refine j_iconst (pc := 18) (v := (-1)) hK dX8_heard_18 (by decide) ?_
    refine j_icmp_ne (pc := 19) (tgt := 25) hK dX8_heard_19 (by decide) (fun c19 => ?_) (fun c19 => ?_)
    · refine j_aload_n (pc := 25) hK dX8_heard_25 rfl ?_
      refine yi_getR (pc := 26) (k := 37) hK (by decide) rfl q1277 rfl dX8_heard_26 ?_
      refine j_iload_n (pc := 29) hK dX8_heard_29 rfl ?_
      refine yi_ald (pc := 30) (k := 37) hK rfl rfl (by first | assumption | exact vp_in_c (by decide)) dX8_heard_30 ?_
      refine j_ist2 (pc := 31) hK dX8_heard_31 (by decide) rfl ?_
      refine j_iload_n (pc := 32) hK dX8_heard_32 rfl ?_
      refine j_iconst (pc := 33) (v := 2) hK dX8_heard_33 (by decide) ?_
      refine j_irem (pc := 34) hK dX8_heard_34 (by decide) ?_
      refine j_iconst (pc := 35) (v := 1) hK dX8_heard_35 (by decide) ?_
      refine j_icmp_ne (pc := 36) (tgt := 42) hK dX8_heard_36 (by decide) (fun c36 => ?_) (fun c36 => ?_)
      · refine j_iconst (pc := 42) (v := 0) hK dX8_heard_42 (by decide) ?_
        refine j_ist3 (pc := 43) hK dX8_heard_43 (by decide) rfl ?_
        rw [esz]
        exact loop c6 sz hsz (sz / 2) 0 (by omega) (by unfold oHeard; rw [if_neg (fun z => z c6), if_neg c19, if_neg c36, esz, nI_clamp (by omega)])
      · refine j_bipush (pc := 39) (v := (-2)) hK dX8_heard_39 (by decide) ?_
        exact j_iret (pc := 41) hK hQ (nle rfl) (nle rfl) dX8_heard_41 (fun h w => ⟨_, rfl, by unfold oHeard; first | rw [if_pos c6] | (rw [if_neg (fun z => z c6)]; first | rw [if_pos c19] | rw [if_neg c19, if_pos c36]), w⟩)
    · refine j_bipush (pc := 22) (v := (-11)) hK dX8_heard_22 (by decide) ?_
      exact j_iret (pc := 24) hK hQ (nle rfl) (nle rfl) dX8_heard_24 (fun h w => ⟨_, rfl, by unfold oHeard; first | rw [if_pos c6] | (rw [if_neg (fun z => z c6)]; first | rw [if_pos c19] | rw [if_neg c19, if_pos c36]), w⟩)
  · refine j_bipush (pc := 9) (v := (-2)) hK dX8_heard_9 (by decide) ?_
    exact j_iret (pc := 11) hK hQ (nle rfl) (nle rfl) dX8_heard_11 (fun h w => ⟨_, rfl, by unfold oHeard; first | rw [if_pos c6] | (rw [if_neg (fun z => z c6)]; first | rw [if_pos c19] | rw [if_neg c19, if_pos c36]), w⟩)
theorem c_Ylowest (a b : Nat) (part : Int32) (ha : a < 2 ^ 31) (hb0 : 0 < b) (hb : b < 2 ^ 31) : Ct Γ A yX8_lowest wX8_lowest 1 0 0 [.long (lN a), .long (lN b), .int part] P (RL fun r h => r = lN ((if part = 0 then a else b) / Nat.gcd a b) ∧ P h) := by
  refine Ct.of (cc := cX8_lowest) (nL := 11) (ret := (some .long)) (ls := [some (.long (lN a)), none, some (.long (lN b)), none, some (.int part), none, none, none, none, none, none]) rfl rfl rfl (nle rfl) ?_
  intro K hK hQ
  have hg0 : 0 < Nat.gcd a b := Nat.gcd_pos_of_pos_right a hb0
  have hgb : Nat.gcd a b ≤ b := Nat.gcd_le_right a hb0
  have loop : ∀ (n x y : Nat), y < n → x < 2 ^ 31 → y < 2 ^ 31 → Nat.gcd x y = Nat.gcd a b → J Γ A K 6 [some (.long (lN a)), none, some (.long (lN b)), none, some (.int part), some (.long (lN x)), none, some (.long (lN y)), none, none, none] [] P 0 0 := by
    intro n
    induction n with
    | zero => intro x y h; omega
    | succ n ih =>
      intro x y hy hx hy2 hg
      by_cases h : y = 0
      · subst h
        rw [Nat.gcd_zero_right] at hg
        have hne : ¬ lN x = 0 := by
          rw [show (0 : Int64) = lN 0 by decide, lN_eq hx (by decide)]
          omega
        refine j_lload (pc := 6) hK dX8_lowest_6 rfl ?_
        refine j_lconst (pc := 8) (v := 0) hK dX8_lowest_8 (by decide) ?_
        refine j_lcmp (pc := 9) hK dX8_lowest_9 ?_
        refine j_if_eq (pc := 10) (tgt := 31) hK dX8_lowest_10 (by decide) (fun c10 => ?_) (fun c10 => absurd (by decide) c10)
        refine j_iload (pc := 31) hK dX8_lowest_31 rfl ?_
        refine j_if_ne (pc := 33) (tgt := 43) hK dX8_lowest_33 (by decide) (fun c33 => ?_) (fun c33 => ?_)
        · refine j_lload_n (pc := 43) hK dX8_lowest_43 rfl ?_
          refine j_lload (pc := 44) hK dX8_lowest_44 rfl ?_
          refine j_ldiv (pc := 46) hK dX8_lowest_46 hne ?_
          exact j_lret (pc := 47) hK hQ (nle rfl) (nle rfl) dX8_lowest_47 (fun h w => ⟨_, rfl, by first | (rw [if_pos c33, ← hg]; exact pk_lDiv (by omega) (by omega) (by omega)) | (rw [if_neg c33, ← hg]; exact pk_lDiv (by omega) (by omega) (by omega)), w⟩)
        · refine j_lload_n (pc := 36) hK dX8_lowest_36 rfl ?_
          refine j_lload (pc := 37) hK dX8_lowest_37 rfl ?_
          refine j_ldiv (pc := 39) hK dX8_lowest_39 hne ?_
          refine j_goto (pc := 40) (tgt := 47) hK dX8_lowest_40 (by decide) ?_
          exact j_lret (pc := 47) hK hQ (nle rfl) (nle rfl) dX8_lowest_47 (fun h w => ⟨_, rfl, by first | (rw [if_pos c33, ← hg]; exact pk_lDiv (by omega) (by omega) (by omega)) | (rw [if_neg c33, ← hg]; exact pk_lDiv (by omega) (by omega) (by omega)), w⟩)
      · have hne : ¬ lN y = 0 := by
          rw [show (0 : Int64) = lN 0 by decide, lN_eq hy2 (by decide)]
          exact h
        refine j_lload (pc := 6) hK dX8_lowest_6 rfl ?_
        refine j_lconst (pc := 8) (v := 0) hK dX8_lowest_8 (by decide) ?_
        refine j_lcmp (pc := 9) hK dX8_lowest_9 ?_
        refine j_if_eq (pc := 10) (tgt := 31) hK dX8_lowest_10 (by decide) (fun c10 => absurd c10 (fun z => hne ((lg_cmp_eq _ _).mp z))) (fun c10 => ?_)
        refine j_lload (pc := 13) hK dX8_lowest_13 rfl ?_
        refine j_lload (pc := 15) hK dX8_lowest_15 rfl ?_
        refine j_lrem (pc := 17) hK dX8_lowest_17 hne ?_
        rw [pk_lRem (by omega) (by omega) (by omega)]
        refine j_lst9 (pc := 18) hK dX8_lowest_18 (by decide) rfl ?_
        refine j_lload (pc := 20) hK dX8_lowest_20 rfl ?_
        refine j_lst5 (pc := 22) hK dX8_lowest_22 (by decide) rfl ?_
        refine j_lload (pc := 24) hK dX8_lowest_24 rfl ?_
        refine j_lst7 (pc := 26) hK dX8_lowest_26 (by decide) rfl ?_
        refine j_goto (pc := 28) (tgt := 6) hK dX8_lowest_28 (by decide) ?_
        refine J.fg _ ?_ (ih y (x % y) (by have := Nat.mod_lt x (Nat.pos_of_ne_zero h); omega) hy2 (by have := Nat.mod_lt x (Nat.pos_of_ne_zero h); omega) (by rw [← hg, Nat.gcd_comm x y, Nat.gcd_rec y x, Nat.gcd_comm]))
        exact ⟨rfl, rfl, rfl, rfl, rfl, trivial⟩
  refine j_lload_n (pc := 0) hK dX8_lowest_0 rfl ?_
  refine j_lst5 (pc := 1) hK dX8_lowest_1 (by decide) rfl ?_
  refine j_lload_n (pc := 3) hK dX8_lowest_3 rfl ?_
  refine j_lst7 (pc := 4) hK dX8_lowest_4 (by decide) rfl ?_
  exact loop (b + 1) a b (by omega) ha hb rfl
theorem c_Ychance (seed n part : Int32) {nb : Nat} (hn : nb ≤ 7) (e0 : f 0 = nI nb) (ho : OkR f T) : Ct Γ A yX8_chance wX8_chance 6 0 0 [.ref (L 40), .int seed, .int n, .int part] (YI Γ L f g T) (RL fun r h => r = oChance f g T nb seed n part ∧ YI Γ L f g T h) := by
  refine Ct.of (cc := cX8_chance) (nL := 7) (ret := (some .long)) (ls := [some (.ref (L 40)), some (.int seed), some (.int n), some (.int part), none, none, none]) rfl rfl rfl (nle rfl) ?_
  intro K hK hQ
  have loop2 : ∀ m : Nat, m ≤ 20 → 0 < m → n = nI m → oChance f g T nb seed n part = lN ((if part = 0 then gdN f g T nb seed m else m) / Nat.gcd (gdN f g T nb seed m) m) → ∀ (r i : Nat), i + r = m → J Γ A K 63 [some (.ref (L 40)), some (.int seed), some (.int n), some (.int part), some (.int (cntS g 0 nb)), some (.int (nI (gdN f g T nb seed i))), some (.int (nI i))] [] (YI Γ L f g T) 0 0 := by
    intro m hm hm0 em hq r
    induction r with
    | zero =>
      intro i hi
      have : i = m := by omega
      subst this
      have hgl := gdN_le (f := f) (g := g) (T := T) (nb := nb) (s := seed) i
      refine j_iload (pc := 63) hK dX8_chance_63 rfl ?_
      refine j_iload_n (pc := 65) hK dX8_chance_65 rfl ?_
      refine j_icmp_ge (pc := 66) (tgt := 91) hK dX8_chance_66 (by decide) (fun c66 => ?_) (fun c66 => absurd (by rw [em]; exact nI_le (by omega) (by omega)) c66)
      refine j_iload (pc := 91) hK dX8_chance_91 rfl ?_
      refine j_i2l (pc := 93) hK dX8_chance_93 ?_
      refine j_iload_n (pc := 94) hK dX8_chance_94 rfl ?_
      refine j_i2l (pc := 95) hK dX8_chance_95 ?_
      refine j_iload_n (pc := 96) hK dX8_chance_96 rfl ?_
      rw [em, nI_l (by omega), nI_l (by omega)]
      refine j_callS (pc := 97) hK hQ (c_Ylowest (gdN f g T nb seed i) i part (by omega) hm0 (by omega)) cal_X8_lowest q1503 dX8_chance_97 rfl rfl (nle rfl) (nle rfl) (nle rfl) (nle rfl) (kr_l fun r97 => ?_) kx_l
      refine J.pre fun e97 => ?_
      subst e97
      exact j_lret (pc := 100) hK hQ (nle rfl) (nle rfl) dX8_chance_100 (fun h w => ⟨_, rfl, hq.symm, w⟩)
    | succ r ih =>
      intro i hi
      refine j_iload (pc := 63) hK dX8_chance_63 rfl ?_
      refine j_iload_n (pc := 65) hK dX8_chance_65 rfl ?_
      refine j_icmp_ge (pc := 66) (tgt := 91) hK dX8_chance_66 (by decide) (fun c66 => absurd c66 (by rw [em]; exact nI_ge (by omega) (by omega))) (fun c66 => ?_)
      refine j_aload_n (pc := 69) hK dX8_chance_69 rfl ?_
      refine j_iload_n (pc := 70) hK dX8_chance_70 rfl ?_
      refine j_iload (pc := 71) hK dX8_chance_71 rfl ?_
      refine j_iadd (pc := 73) hK dX8_chance_73 ?_
      refine j_callV (pc := 74) hK hQ (c_Ydrawn _ hn e0 ho) cal_X8_drawn yi_isC q1502 dX8_chance_74 rfl rfl (nle rfl) (nle rfl) (nle rfl) (nle rfl) (kr_i fun r74 => ?_) kx_i
      refine J.pre fun e74 => ?_
      subst e74
      refine j_iload (pc := 77) hK dX8_chance_77 rfl ?_
      refine j_icmp_ne (pc := 79) (tgt := 85) hK dX8_chance_79 (by decide) (fun c79 => ?_) (fun c79 => ?_)
      · refine j_iinc6 (pc := 85) (v := 1) hK dX8_chance_85 (by decide) rfl (by decide) ?_
        refine j_goto (pc := 88) (tgt := 63) hK dX8_chance_88 (by decide) ?_
        rw [nI_1]
        first | (rw [nI_1, ← gdN_y c79]; exact ih (i + 1) (by omega)) | (rw [← gdN_n c79]; exact ih (i + 1) (by omega))
      · refine j_iinc5 (pc := 82) (v := 1) hK dX8_chance_82 (by decide) rfl (by decide) ?_
        refine j_iinc6 (pc := 85) (v := 1) hK dX8_chance_85 (by decide) rfl (by decide) ?_
        refine j_goto (pc := 88) (tgt := 63) hK dX8_chance_88 (by decide) ?_
        rw [nI_1]
        first | (rw [nI_1, ← gdN_y c79]; exact ih (i + 1) (by omega)) | (rw [← gdN_n c79]; exact ih (i + 1) (by omega))
  have loop1 : ∀ m : Nat, m ≤ 20 → 0 < m → n = nI m → oChance f g T nb seed n part = lN ((if part = 0 then gdN f g T nb seed m else m) / Nat.gcd (gdN f g T nb seed m) m) → ∀ (r i : Nat), i + r = nb → J Γ A K 29 [some (.ref (L 40)), some (.int seed), some (.int n), some (.int part), some (.int (cntS g 0 i)), some (.int (nI i)), none] [] (YI Γ L f g T) 0 0 := by
    intro m hm hm0 em hq r
    induction r with
    | zero =>
      intro i hi
      have : i = nb := by omega
      subst this
      refine j_iload (pc := 29) hK dX8_chance_29 rfl ?_
      refine j_aload_n (pc := 31) hK dX8_chance_31 rfl ?_
      refine yi_getI (pc := 32) (k := 0) hK (by decide) rfl rfl q1240 rfl dX8_chance_32 ?_
      refine j_icmp_ge (pc := 35) (tgt := 57) hK dX8_chance_35 (by decide) (fun c35 => ?_) (fun c35 => absurd (by rw [e0]; exact nI_le (by omega) (by omega)) c35)
      refine j_iconst (pc := 57) (v := 0) hK dX8_chance_57 (by decide) ?_
      refine j_ist5 (pc := 58) hK dX8_chance_58 (by decide) rfl ?_
      refine j_iconst (pc := 60) (v := 0) hK dX8_chance_60 (by decide) ?_
      refine j_ist6 (pc := 61) hK dX8_chance_61 (by decide) rfl ?_
      exact loop2 m hm hm0 em hq m 0 (by omega)
    | succ r ih =>
      intro i hi
      have hb : vp_in (nI i) 7 := vp_in_nI (by omega) (by decide)
      refine j_iload (pc := 29) hK dX8_chance_29 rfl ?_
      refine j_aload_n (pc := 31) hK dX8_chance_31 rfl ?_
      refine yi_getI (pc := 32) (k := 0) hK (by decide) rfl rfl q1240 rfl dX8_chance_32 ?_
      refine j_icmp_ge (pc := 35) (tgt := 57) hK dX8_chance_35 (by decide) (fun c35 => absurd c35 (by rw [e0]; exact nI_ge (by omega) (by omega))) (fun c35 => ?_)
      refine j_aload_n (pc := 38) hK dX8_chance_38 rfl ?_
      refine yi_getR (pc := 39) (k := 6) hK (by decide) rfl q1246 rfl dX8_chance_39 ?_
      refine j_iload (pc := 42) hK dX8_chance_42 rfl ?_
      refine yi_ald (pc := 44) (k := 6) hK rfl rfl (by first | assumption | exact vp_in_c (by decide)) dX8_chance_44 ?_
      refine j_if_ne (pc := 45) (tgt := 51) hK dX8_chance_45 (by decide) (fun c45 => ?_) (fun c45 => ?_)
      · refine j_iinc5 (pc := 51) (v := 1) hK dX8_chance_51 (by decide) rfl (by decide) ?_
        refine j_goto (pc := 54) (tgt := 29) hK dX8_chance_54 (by decide) ?_
        rw [nI_1]
        first | rw [← cntS_y c45] | rw [← cntS_n c45]
        exact ih (i + 1) (by omega)
      · refine j_iinc4 (pc := 48) (v := 1) hK dX8_chance_48 (by decide) rfl (by decide) ?_
        refine j_iinc5 (pc := 51) (v := 1) hK dX8_chance_51 (by decide) rfl (by decide) ?_
        refine j_goto (pc := 54) (tgt := 29) hK dX8_chance_54 (by decide) ?_
        rw [nI_1]
        first | rw [← cntS_y c45] | rw [← cntS_n c45]
        exact ih (i + 1) (by omega)
  refine j_iload_n (pc := 0) hK dX8_chance_0 rfl ?_
  refine j_iconst (pc := 1) (v := 1) hK dX8_chance_1 (by decide) ?_
  refine j_bipush (pc := 2) (v := 20) hK dX8_chance_2 (by decide) ?_
  refine j_callS (pc := 4) hK hQ (c_Ywithin _ _ _) cal_X8_within q1167 dX8_chance_4 rfl rfl (nle rfl) (nle rfl) (nle rfl) (nle rfl) (kr_i fun r4 => ?_) kx_i
  refine J.pre fun e4 => ?_
  subst e4
  refine j_if_eq_b (pc := 7) (tgt := 19) hK dX8_chance_7 (by decide) (fun c7 => ?_) (fun c7 => ?_)
  · refine j_ldc2 (pc := 19) hK q1501 dX8_chance_19 ?_
    exact j_lret (pc := 22) hK hQ (nle rfl) (nle rfl) dX8_chance_22 (fun h w => ⟨_, rfl, by unfold oChance; first | rw [if_pos c7] | rw [if_neg (fun z => z c7), if_pos c16], w⟩)
  · refine j_iload_n (pc := 10) hK dX8_chance_10 rfl ?_
    refine j_iconst (pc := 11) (v := 0) hK dX8_chance_11 (by decide) ?_
    refine j_iconst (pc := 12) (v := 1) hK dX8_chance_12 (by decide) ?_
    refine j_callS (pc := 13) hK hQ (c_Ywithin _ _ _) cal_X8_within q1167 dX8_chance_13 rfl rfl (nle rfl) (nle rfl) (nle rfl) (nle rfl) (kr_i fun r13 => ?_) kx_i
    refine J.pre fun e13 => ?_
    subst e13
    refine j_if_ne_b (pc := 16) (tgt := 23) hK dX8_chance_16 (by decide) (fun c16 => ?_) (fun c16 => ?_)
    · obtain ⟨m, hm, em⟩ := nI_of2 (x := n) (M := 20) (n := 20) (by decide) (Int32.not_lt.mpr (by have := c7.1; clear hK hQ loop1 loop2; grind)) c7.2
      have hm0 : 0 < m := by
        rcases Nat.eq_zero_or_pos m with z | z
        · subst z; rw [em] at c7; exact absurd c7.1 (by decide)
        · exact z
      refine j_iconst (pc := 23) (v := 0) hK dX8_chance_23 (by decide) ?_
      refine j_ist4 (pc := 24) hK dX8_chance_24 (by decide) rfl ?_
      refine j_iconst (pc := 26) (v := 0) hK dX8_chance_26 (by decide) ?_
      refine j_ist5 (pc := 27) hK dX8_chance_27 (by decide) rfl ?_
      exact loop1 m hm hm0 em (by unfold oChance; rw [if_neg (fun z => z c7), if_neg (fun z => z c16), em, nI_clamp (by omega)]) nb 0 (by omega)
    · refine j_ldc2 (pc := 19) hK q1501 dX8_chance_19 ?_
      exact j_lret (pc := 22) hK hQ (nle rfl) (nle rfl) dX8_chance_22 (fun h w => ⟨_, rfl, by unfold oChance; first | rw [if_pos c7] | rw [if_neg (fun z => z c7), if_pos c16], w⟩)
end Y8
