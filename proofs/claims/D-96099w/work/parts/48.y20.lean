/-! the reference is made -/
set_option maxRecDepth 100000
section Y20
variable {Γ : Gam} {A : Nat → Prop} {P : PH → Prop} {a : Nat}
def T0 : TX := fun _ _ => []
def f00 : Nat → Int32 := upd (upd (upd (fun _ => 0) 8 27) 11 2) 12 1
def g00 : Nat → Int32 → Int32 := ug (ug (ug (ug (fun _ _ => 0) 36 0 (-1)) 36 (0 + 1) (-1)) 36 (0 + 1 + 1) (-1)) 36 (0 + 1 + 1 + 1) (-1)
def fdS : Nat → R3
  | 0 => (0, f00, g00)
  | i + 1 => oFeed (fdS i).2.1 (fdS i).2.2 (wFirst.getD i 0)
def oInit : R3 × TX := oText (fdS 46).2.1 (fdS 46).2.2 T0
theorem fdS_ok : ∀ i, i ≤ 46 → (fdS i).2.1 15 = nI i ∧ (fdS i).2.1 17 = 0 := by
  decide +kernel
theorem j_obj {K : JC} {cc : ByteArray} {nL : Nat} {own : String} {hh : List (Nat × Nat × Nat × Nat)} {pc idx : Nat} {ls : List (Option Value)} {st : List Value} {cs ss d mc ms : Nat} {ret : Option FieldType} {Φ : Outcome → PH → Prop} (hK : Jok Γ A K cc nL own hh) (hQ : Kq Γ A K d mc ms ret Φ) (hlink : Cond.methodLink own idx Lib.objectInit ∈ lw_all) (hd : decode cc pc = .ok (.invokespecial idx, 3)) (h1 : 1 ≤ d) (h2 : (st.map fun v => v.category).sum + 12 ≤ 60 * d) (kk : J Γ A K (pc + 3) ls st P cs ss) : J Γ A K pc ls (.ref a :: st) P cs ss := fun h H locs arr hP hR hL =>
  W.objInit hK.x hK.b hK.own (hK.ts _ hlink) (hK.ts _ q126) (hK.ts _ q127) rfl hL.1 rfl hd (by rw [hQ.1]; exact h1) (by rw [hQ.1]; show 2 * 0 + _ + 12 ≤ 60 * d; omega) (kk h H locs arr hP hR hL)
theorem c_Yinit : Ct Γ A yX8_init wX8_init 50 20 1708 [.ref a] (YWp Γ (fun _ => false) (fun _ => a) (fun _ => 0) (fun _ _ => 0)) (RV fun h => ∃ L, L 40 = a ∧ ∃ r, YTo Γ L oInit r h) := by
  refine Ct.ofI (cc := cX8_init) (nL := 3) (ret := none) (ls := [some (.ref a), none, none]) rfl rfl rfl (nle rfl) ?_
  intro K hK hQ hI
  have hΓ := hK.g
  obtain ⟨a80, v80, hev80, hS80⟩ := ls_X8_80 hK.g
  have rest : ∀ L : Nat → Nat, L 40 = a → J Γ A K 166 [some (.ref a), none, none] [] (YW Γ L (fun _ => 0) (fun _ _ => 0)) 20 1708 := by
    intro L hL
    subst hL
    have loop : ∀ (r i : Nat), i + r = 46 → J Γ A K 207 [some (.ref (L 40)), some (.ref a80), some (.int (nI i))] [] (YI Γ L (fdS i).2.1 (fdS i).2.2 T0) 20 1708 := by
      intro r
      induction r with
      | zero =>
        intro i hi0
        have : i = 46 := by omega
        subst this
        refine j_iload_n (pc := 207) hK dX8_init_207 rfl ?_
        refine j_aload_n (pc := 208) hK dX8_init_208 rfl ?_
        refine j_callL (pc := 209) hK hQ (c_Jlength hΓ hS80) cal_J3_length hS80 q1161 dX8_init_209 rfl rfl (nle rfl) (nle rfl) (nle rfl) (nle rfl) (kr_i fun r209 => ?_) kx_i
        refine J.pre fun e209 => ?_
        subst e209
        refine j_icmp_ge (pc := 212) (tgt := 231) hK dX8_init_212 (by decide) (fun c212 => ?_) (fun c212 => absurd (by decide) c212)
        refine j_aload_n (pc := 231) hK dX8_init_231 rfl ?_
        refine j_callV (pc := 232) hK hQ (c_Ytext (n := 46) (tx := 0) (fdS_ok 46 (by omega)).1 (by omega) (fdS_ok 46 (by omega)).2 (by omega)) cal_X8_text yi_isC q1170 dX8_init_232 rfl rfl (nle rfl) (nle rfl) (nle rfl) (nle rfl) (kr_i fun r232 => ?_) kx_i
        skip
        refine j_pop (pc := 235) hK dX8_init_235 rfl ?_
        exact j_vret (pc := 236) hK hQ (nle rfl) (nle rfl) dX8_init_236 (fun h w => ⟨rfl, L, rfl, _, w⟩)
      | succ r ih =>
        intro i hi0
        have hi : i < wFirst.length := by show i < 46; omega
        have hch : chI (wFirst.getD i 0) = wFirst.getD i 0 := (by decide : ∀ j, j < wFirst.length → chI (wFirst.getD j 0) = wFirst.getD j 0) i hi
        refine j_iload_n (pc := 207) hK dX8_init_207 rfl ?_
        refine j_aload_n (pc := 208) hK dX8_init_208 rfl ?_
        refine j_callL (pc := 209) hK hQ (c_Jlength hΓ hS80) cal_J3_length hS80 q1161 dX8_init_209 rfl rfl (nle rfl) (nle rfl) (nle rfl) (nle rfl) (kr_i fun r209 => ?_) kx_i
        refine J.pre fun e209 => ?_
        subst e209
        refine j_icmp_ge (pc := 212) (tgt := 231) hK dX8_init_212 (by decide) (fun c212 => absurd c212 (nI_ge (show i < 46 by omega) (by decide))) (fun c212 => ?_)
        refine j_aload_n (pc := 215) hK dX8_init_215 rfl ?_
        refine j_aload_n (pc := 216) hK dX8_init_216 rfl ?_
        refine j_iload_n (pc := 217) hK dX8_init_217 rfl ?_
        refine j_callL (pc := 218) hK hQ (c_JcharAt hΓ hS80 hi) cal_J3_charAt hS80 q1162 dX8_init_218 rfl rfl (nle rfl) (nle rfl) (nle rfl) (nle rfl) (kr_i fun r218 => ?_) kx_i
        refine J.pre fun e218 => ?_
        subst e218
        rw [hch]
        refine j_callV (pc := 221) hK hQ (c_Yfeed _ (by rw [(fdS_ok i (by omega)).1]; exact Int32.not_lt.mp (nI_pos (by omega))) (by rw [(fdS_ok i (by omega)).1]; exact nI_le (show i ≤ 160 by omega) (by decide))) cal_X8_feed yi_isC q1163 dX8_init_221 rfl rfl (nle rfl) (nle rfl) (nle rfl) (nle rfl) (kr_i fun r221 => ?_) kx_i
        refine J.ex fun f2 => J.ex fun g2 => J.pre fun e221 => ?_
        refine j_pop (pc := 224) hK dX8_init_224 rfl ?_
        refine j_iinc2 (pc := 225) (v := 1) hK dX8_init_225 (by decide) rfl (by decide) ?_
        refine j_goto (pc := 228) (tgt := 207) hK dX8_init_228 (by decide) ?_
        rw [nI_1]
        have e2 : fdS (i + 1) = (r221, f2, g2) := e221
        have := ih (i + 1) (by omega)
        rw [e2] at this
        exact this
    refine j_iconst (pc := 166) (v := 0) hK dX8_init_166 (by decide) ?_
    refine j_ist1 (pc := 167) hK dX8_init_167 (by decide) rfl ?_
    refine j_iload_n (pc := 168) hK dX8_init_168 rfl ?_
    refine j_iconst (pc := 169) (v := 4) hK dX8_init_169 (by decide) ?_
    refine j_icmp_ge (pc := 170) (tgt := 186) hK dX8_init_170 (by decide) (fun c170 => absurd c170 (by decide)) (fun c170 => ?_)
    refine j_aload_n (pc := 173) hK dX8_init_173 rfl ?_
    refine y_getR (pc := 174) (k := 36) hK (by decide) rfl q1276 rfl dX8_init_174 ?_
    refine j_iload_n (pc := 177) hK dX8_init_177 rfl ?_
    refine j_iconst (pc := 178) (v := (-1)) hK dX8_init_178 (by decide) ?_
    refine y_ast (pc := 179) (k := 36) hK rfl (vp_in_c (by decide)) dX8_init_179 ?_
    refine j_iinc1 (pc := 180) (v := 1) hK dX8_init_180 (by decide) rfl (by decide) ?_
    refine j_goto (pc := 183) (tgt := 168) hK dX8_init_183 (by decide) ?_
    refine j_iload_n (pc := 168) hK dX8_init_168 rfl ?_
    refine j_iconst (pc := 169) (v := 4) hK dX8_init_169 (by decide) ?_
    refine j_icmp_ge (pc := 170) (tgt := 186) hK dX8_init_170 (by decide) (fun c170 => absurd c170 (by decide)) (fun c170 => ?_)
    refine j_aload_n (pc := 173) hK dX8_init_173 rfl ?_
    refine y_getR (pc := 174) (k := 36) hK (by decide) rfl q1276 rfl dX8_init_174 ?_
    refine j_iload_n (pc := 177) hK dX8_init_177 rfl ?_
    refine j_iconst (pc := 178) (v := (-1)) hK dX8_init_178 (by decide) ?_
    refine y_ast (pc := 179) (k := 36) hK rfl (vp_in_c (by decide)) dX8_init_179 ?_
    refine j_iinc1 (pc := 180) (v := 1) hK dX8_init_180 (by decide) rfl (by decide) ?_
    refine j_goto (pc := 183) (tgt := 168) hK dX8_init_183 (by decide) ?_
    refine j_iload_n (pc := 168) hK dX8_init_168 rfl ?_
    refine j_iconst (pc := 169) (v := 4) hK dX8_init_169 (by decide) ?_
    refine j_icmp_ge (pc := 170) (tgt := 186) hK dX8_init_170 (by decide) (fun c170 => absurd c170 (by decide)) (fun c170 => ?_)
    refine j_aload_n (pc := 173) hK dX8_init_173 rfl ?_
    refine y_getR (pc := 174) (k := 36) hK (by decide) rfl q1276 rfl dX8_init_174 ?_
    refine j_iload_n (pc := 177) hK dX8_init_177 rfl ?_
    refine j_iconst (pc := 178) (v := (-1)) hK dX8_init_178 (by decide) ?_
    refine y_ast (pc := 179) (k := 36) hK rfl (vp_in_c (by decide)) dX8_init_179 ?_
    refine j_iinc1 (pc := 180) (v := 1) hK dX8_init_180 (by decide) rfl (by decide) ?_
    refine j_goto (pc := 183) (tgt := 168) hK dX8_init_183 (by decide) ?_
    refine j_iload_n (pc := 168) hK dX8_init_168 rfl ?_
    refine j_iconst (pc := 169) (v := 4) hK dX8_init_169 (by decide) ?_
    refine j_icmp_ge (pc := 170) (tgt := 186) hK dX8_init_170 (by decide) (fun c170 => absurd c170 (by decide)) (fun c170 => ?_)
    refine j_aload_n (pc := 173) hK dX8_init_173 rfl ?_
    refine y_getR (pc := 174) (k := 36) hK (by decide) rfl q1276 rfl dX8_init_174 ?_
    refine j_iload_n (pc := 177) hK dX8_init_177 rfl ?_
    refine j_iconst (pc := 178) (v := (-1)) hK dX8_init_178 (by decide) ?_
    refine y_ast (pc := 179) (k := 36) hK rfl (vp_in_c (by decide)) dX8_init_179 ?_
    refine j_iinc1 (pc := 180) (v := 1) hK dX8_init_180 (by decide) rfl (by decide) ?_
    refine j_goto (pc := 183) (tgt := 168) hK dX8_init_183 (by decide) ?_
    refine j_iload_n (pc := 168) hK dX8_init_168 rfl ?_
    refine j_iconst (pc := 169) (v := 4) hK dX8_init_169 (by decide) ?_
    refine j_icmp_ge (pc := 170) (tgt := 186) hK dX8_init_170 (by decide) (fun c170 => ?_) (fun c170 => absurd (by decide) c170)
    refine j_aload_n (pc := 186) hK dX8_init_186 rfl ?_
    refine j_bipush (pc := 187) (v := 27) hK dX8_init_187 (by decide) ?_
    refine y_putI (pc := 189) (k := 8) hK (by decide) rfl q1248 rfl rfl rfl rfl dX8_init_189 ?_
    refine j_aload_n (pc := 192) hK dX8_init_192 rfl ?_
    refine j_iconst (pc := 193) (v := 2) hK dX8_init_193 (by decide) ?_
    refine y_putI (pc := 194) (k := 11) hK (by decide) rfl q1251 rfl rfl rfl rfl dX8_init_194 ?_
    refine j_aload_n (pc := 197) hK dX8_init_197 rfl ?_
    refine j_iconst (pc := 198) (v := 1) hK dX8_init_198 (by decide) ?_
    refine y_putI (pc := 199) (k := 12) hK (by decide) rfl q1252 rfl rfl rfl rfl dX8_init_199 ?_
    refine j_ldcs (pc := 202) hK q1160 hev80 dX8_init_202 ?_
    refine j_ast1 (pc := 204) hK dX8_init_204 (by decide) rfl ?_
    refine j_iconst (pc := 205) (v := 0) hK dX8_init_205 (by decide) ?_
    refine j_ist2 (pc := 206) hK dX8_init_206 (by decide) rfl ?_
    refine J.mono (fun h w => ⟨_, _, w, Ess.refl, fun t t0 t1 => absurd t1 (Int32.not_lt.mpr t0)⟩) (loop 46 0 (by omega))
  refine j_aload_n (pc := 0) hK dX8_init_0 rfl ?_
  refine j_obj (pc := 1) hK hQ q1159 dX8_init_1 (by decide) (by decide) ?_
  refine j_aload_n (pc := 4) hK dX8_init_4 rfl ?_
  refine j_bipush (pc := 5) (v := 7) hK dX8_init_5 (by decide) ?_
  refine yc_new (pc := 7) (k := 1) rfl hK hQ hI (by decide) rfl rfl (by decide) q1241 rfl rfl rfl dX8_init_7 dX8_init_9 (nle rfl) (nle rfl) (fun _ => rfl) (fun b1 => ?_)
  refine j_aload_n (pc := 12) hK dX8_init_12 rfl ?_
  refine j_bipush (pc := 13) (v := 7) hK dX8_init_13 (by decide) ?_
  refine yc_new (pc := 15) (k := 2) rfl hK hQ hI (by decide) rfl rfl (by decide) q1242 rfl rfl rfl dX8_init_15 dX8_init_17 (nle rfl) (nle rfl) (fun _ => rfl) (fun b2 => ?_)
  refine j_aload_n (pc := 20) hK dX8_init_20 rfl ?_
  refine j_bipush (pc := 21) (v := 7) hK dX8_init_21 (by decide) ?_
  refine yc_new (pc := 23) (k := 3) rfl hK hQ hI (by decide) rfl rfl (by decide) q1243 rfl rfl rfl dX8_init_23 dX8_init_25 (nle rfl) (nle rfl) (fun _ => rfl) (fun b3 => ?_)
  refine j_aload_n (pc := 28) hK dX8_init_28 rfl ?_
  refine j_bipush (pc := 29) (v := 7) hK dX8_init_29 (by decide) ?_
  refine yc_new (pc := 31) (k := 4) rfl hK hQ hI (by decide) rfl rfl (by decide) q1244 rfl rfl rfl dX8_init_31 dX8_init_33 (nle rfl) (nle rfl) (fun _ => rfl) (fun b4 => ?_)
  refine j_aload_n (pc := 36) hK dX8_init_36 rfl ?_
  refine j_bipush (pc := 37) (v := 7) hK dX8_init_37 (by decide) ?_
  refine yc_new (pc := 39) (k := 5) rfl hK hQ hI (by decide) rfl rfl (by decide) q1245 rfl rfl rfl dX8_init_39 dX8_init_41 (nle rfl) (nle rfl) (fun _ => rfl) (fun b5 => ?_)
  refine j_aload_n (pc := 44) hK dX8_init_44 rfl ?_
  refine j_bipush (pc := 45) (v := 7) hK dX8_init_45 (by decide) ?_
  refine yc_new (pc := 47) (k := 6) rfl hK hQ hI (by decide) rfl rfl (by decide) q1246 rfl rfl rfl dX8_init_47 dX8_init_49 (nle rfl) (nle rfl) (fun _ => rfl) (fun b6 => ?_)
  refine j_aload_n (pc := 52) hK dX8_init_52 rfl ?_
  refine j_bipush (pc := 53) (v := 7) hK dX8_init_53 (by decide) ?_
  refine yc_new (pc := 55) (k := 7) rfl hK hQ hI (by decide) rfl rfl (by decide) q1247 rfl rfl rfl dX8_init_55 dX8_init_57 (nle rfl) (nle rfl) (fun _ => rfl) (fun b7 => ?_)
  refine j_aload_n (pc := 60) hK dX8_init_60 rfl ?_
  refine j_sipush (pc := 61) (v := 160) hK dX8_init_61 (by decide) ?_
  refine yc_new (pc := 64) (k := 16) rfl hK hQ hI (by decide) rfl rfl (by decide) q1256 rfl rfl rfl dX8_init_64 dX8_init_66 (nle rfl) (nle rfl) (fun _ => rfl) (fun b16 => ?_)
  refine j_aload_n (pc := 69) hK dX8_init_69 rfl ?_
  refine j_sipush (pc := 70) (v := 1020) hK dX8_init_70 (by decide) ?_
  refine yc_new (pc := 73) (k := 19) rfl hK hQ hI (by decide) rfl rfl (by decide) q1259 rfl rfl rfl dX8_init_73 dX8_init_75 (nle rfl) (nle rfl) (fun _ => rfl) (fun b19 => ?_)
  refine j_aload_n (pc := 78) hK dX8_init_78 rfl ?_
  refine j_bipush (pc := 79) (v := 24) hK dX8_init_79 (by decide) ?_
  refine yc_new (pc := 81) (k := 20) rfl hK hQ hI (by decide) rfl rfl (by decide) q1260 rfl rfl rfl dX8_init_81 dX8_init_83 (nle rfl) (nle rfl) (fun _ => rfl) (fun b20 => ?_)
  refine j_aload_n (pc := 86) hK dX8_init_86 rfl ?_
  refine j_sipush (pc := 87) (v := 170) hK dX8_init_87 (by decide) ?_
  refine yc_new (pc := 90) (k := 27) rfl hK hQ hI (by decide) rfl rfl (by decide) q1267 rfl rfl rfl dX8_init_90 dX8_init_92 (nle rfl) (nle rfl) (fun _ => rfl) (fun b27 => ?_)
  refine j_aload_n (pc := 95) hK dX8_init_95 rfl ?_
  refine j_bipush (pc := 96) (v := 6) hK dX8_init_96 (by decide) ?_
  refine yc_new (pc := 98) (k := 28) rfl hK hQ hI (by decide) rfl rfl (by decide) q1268 rfl rfl rfl dX8_init_98 dX8_init_100 (nle rfl) (nle rfl) (fun _ => rfl) (fun b28 => ?_)
  refine j_aload_n (pc := 103) hK dX8_init_103 rfl ?_
  refine j_bipush (pc := 104) (v := 7) hK dX8_init_104 (by decide) ?_
  refine yc_new (pc := 106) (k := 30) rfl hK hQ hI (by decide) rfl rfl (by decide) q1270 rfl rfl rfl dX8_init_106 dX8_init_108 (nle rfl) (nle rfl) (fun _ => rfl) (fun b30 => ?_)
  refine j_aload_n (pc := 111) hK dX8_init_111 rfl ?_
  refine j_bipush (pc := 112) (v := 7) hK dX8_init_112 (by decide) ?_
  refine yc_new (pc := 114) (k := 31) rfl hK hQ hI (by decide) rfl rfl (by decide) q1271 rfl rfl rfl dX8_init_114 dX8_init_116 (nle rfl) (nle rfl) (fun _ => rfl) (fun b31 => ?_)
  refine j_aload_n (pc := 119) hK dX8_init_119 rfl ?_
  refine j_bipush (pc := 120) (v := 7) hK dX8_init_120 (by decide) ?_
  refine yc_new (pc := 122) (k := 32) rfl hK hQ hI (by decide) rfl rfl (by decide) q1272 rfl rfl rfl dX8_init_122 dX8_init_124 (nle rfl) (nle rfl) (fun _ => rfl) (fun b32 => ?_)
  refine j_aload_n (pc := 127) hK dX8_init_127 rfl ?_
  refine j_bipush (pc := 128) (v := 50) hK dX8_init_128 (by decide) ?_
  refine yc_new (pc := 130) (k := 35) rfl hK hQ hI (by decide) rfl rfl (by decide) q1275 rfl rfl rfl dX8_init_130 dX8_init_132 (nle rfl) (nle rfl) (fun _ => rfl) (fun b35 => ?_)
  refine j_aload_n (pc := 135) hK dX8_init_135 rfl ?_
  refine j_iconst (pc := 136) (v := 4) hK dX8_init_136 (by decide) ?_
  refine yc_new (pc := 137) (k := 36) rfl hK hQ hI (by decide) rfl rfl (by decide) q1276 rfl rfl rfl dX8_init_137 dX8_init_139 (nle rfl) (nle rfl) (fun _ => rfl) (fun b36 => ?_)
  refine j_aload_n (pc := 142) hK dX8_init_142 rfl ?_
  refine j_iconst (pc := 143) (v := 4) hK dX8_init_143 (by decide) ?_
  refine yc_new (pc := 144) (k := 37) rfl hK hQ hI (by decide) rfl rfl (by decide) q1277 rfl rfl rfl dX8_init_144 dX8_init_146 (nle rfl) (nle rfl) (fun _ => rfl) (fun b37 => ?_)
  refine j_aload_n (pc := 149) hK dX8_init_149 rfl ?_
  refine j_sipush (pc := 150) (v := 160) hK dX8_init_150 (by decide) ?_
  refine yc_new (pc := 153) (k := 38) rfl hK hQ hI (by decide) rfl rfl (by decide) q1278 rfl rfl rfl dX8_init_153 dX8_init_155 (nle rfl) (nle rfl) (fun _ => rfl) (fun b38 => ?_)
  refine j_aload_n (pc := 158) hK dX8_init_158 rfl ?_
  refine j_bipush (pc := 159) (v := 40) hK dX8_init_159 (by decide) ?_
  refine yc_new (pc := 161) (k := 39) rfl hK hQ hI (by decide) rfl rfl (by decide) q1279 rfl rfl rfl dX8_init_161 dX8_init_163 (nle rfl) (nle rfl) (fun _ => rfl) (fun b39 => ?_)
  exact J.mono (fun h w => w.full (fun k hk => by unfold yar at hk; split at hk <;> first | rfl | cases hk)) (rest _ rfl)
end Y20
