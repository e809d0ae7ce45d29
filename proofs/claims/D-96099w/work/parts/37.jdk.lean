/-! the JDK's own methods on string constants -/
set_option maxRecDepth 100000
def chI (x : Int32) : Int32 := ((x &&& 255).toUInt32 % 65536).toInt32
theorem j_zretq {Γ : Gam} {A : Nat → Prop} {K : JC} {cc : ByteArray} {nL : Nat} {own : String} {hh : List (Nat × Nat × Nat × Nat)} {pc : Nat} {ls : List (Option Value)} {P : PH → Prop} {cs ss d mc ms : Nat} {Φ : Outcome → PH → Prop} {ty : FieldType} {v : Int32} (hK : Jok Γ A K cc nL own hh) (hQ : Kq Γ A K d mc ms (some ty) Φ) (hc : cs ≤ mc) (hs : ss ≤ ms) (hd : decode cc pc = .ok (.ireturn, 1)) (hq : ∀ h, P h → narrow ty (.int v) = .int v ∧ Φ (.returned (some (.int v))) h) : J Γ A K pc ls [.int v] P cs ss := fun h H locs arr hP hR hL => j_zret hK hQ (hq h hP).1 hc hs hd (fun h hP => (hq h hP).2) h H locs arr hP hR hL
abbrev wJ3_length : List Cond := ws_ yJ3_length cJ3_length 1 (some .int)
theorem cal_J3_length : CalV RJ3 yJ3_length yJ3_length wJ3_length 1 0 := ⟨lw_meth q419, q417, q418, q76, CodeOf.of q419, ⟨by decide, by decide⟩, (by decide +kernel), by decide⟩
theorem calP_J3_length : CalP yJ3_length wJ3_length 1 0 := ⟨lw_meth q419, q417, q76, CodeOf.of q419, ⟨by decide, by decide⟩, (by decide +kernel), by decide⟩
abbrev wJ3_coder : List Cond := ws_ yJ3_coder cJ3_coder 1 (some .byte)
theorem cal_J3_coder : CalV RJ3 yJ3_coder yJ3_coder wJ3_coder 1 0 := ⟨lw_meth q423, q421, q422, q76, CodeOf.of q423, ⟨by decide, by decide⟩, (by decide +kernel), by decide⟩
theorem calP_J3_coder : CalP yJ3_coder wJ3_coder 1 0 := ⟨lw_meth q423, q421, q76, CodeOf.of q423, ⟨by decide, by decide⟩, (by decide +kernel), by decide⟩
abbrev wJ3_charAt : List Cond := ws_ yJ3_charAt cJ3_charAt 2 (some .char)
theorem cal_J3_charAt : CalV RJ3 yJ3_charAt yJ3_charAt wJ3_charAt 2 1 := ⟨lw_meth q429, q427, q428, q76, CodeOf.of q429, ⟨by decide, by decide⟩, (by decide +kernel), by decide⟩
theorem calP_J3_charAt : CalP yJ3_charAt wJ3_charAt 2 1 := ⟨lw_meth q429, q427, q76, CodeOf.of q429, ⟨by decide, by decide⟩, (by decide +kernel), by decide⟩
abbrev wJ3_isLatin1 : List Cond := ws_ yJ3_isLatin1 cJ3_isLatin1 1 (some .boolean)
theorem cal_J3_isLatin1 : CalV RJ3 yJ3_isLatin1 yJ3_isLatin1 wJ3_isLatin1 1 0 := ⟨lw_meth q433, q431, q432, q76, CodeOf.of q433, ⟨by decide, by decide⟩, (by decide +kernel), by decide⟩
theorem calP_J3_isLatin1 : CalP yJ3_isLatin1 wJ3_isLatin1 1 0 := ⟨lw_meth q433, q431, q76, CodeOf.of q433, ⟨by decide, by decide⟩, (by decide +kernel), by decide⟩
abbrev wJ3_checkIndex : List Cond := ws_ yJ3_checkIndex cJ3_checkIndex 2 none
theorem cal_J3_checkIndex : CalS yJ3_checkIndex wJ3_checkIndex 2 2 := ⟨lw_meth q439, q438, q76, CodeOf.of q439, ⟨by decide, by decide⟩, (by decide +kernel), by decide⟩
abbrev wJ3_indexOf : List Cond := ws_ yJ3_indexOf cJ3_indexOf 2 (some .int)
theorem cal_J3_indexOf : CalV RJ3 yJ3_indexOf yJ3_indexOf wJ3_indexOf 2 1 := ⟨lw_meth q477, q475, q476, q76, CodeOf.of q477, ⟨by decide, by decide⟩, (by decide +kernel), by decide⟩
theorem calP_J3_indexOf : CalP yJ3_indexOf wJ3_indexOf 2 1 := ⟨lw_meth q477, q475, q76, CodeOf.of q477, ⟨by decide, by decide⟩, (by decide +kernel), by decide⟩
abbrev wJ3_indexOf_2 : List Cond := ws_ yJ3_indexOf_2 cJ3_indexOf_2 3 (some .int)
theorem cal_J3_indexOf_2 : CalV RJ3 yJ3_indexOf_2 yJ3_indexOf_2 wJ3_indexOf_2 3 2 := ⟨lw_meth q481, q479, q480, q76, CodeOf.of q481, ⟨by decide, by decide⟩, (by decide +kernel), by decide⟩
theorem calP_J3_indexOf_2 : CalP yJ3_indexOf_2 wJ3_indexOf_2 3 2 := ⟨lw_meth q481, q479, q76, CodeOf.of q481, ⟨by decide, by decide⟩, (by decide +kernel), by decide⟩
abbrev wJ4_charAt : List Cond := ws_ yJ4_charAt cJ4_charAt 2 (some .char)
theorem cal_J4_charAt : CalS yJ4_charAt wJ4_charAt 2 2 := ⟨lw_meth q436, q435, q77, CodeOf.of q436, ⟨by decide, by decide⟩, (by decide +kernel), by decide⟩
abbrev wJ5_checkIndex : List Cond := ws_ yJ5_checkIndex cJ5_checkIndex 3 (some .int)
theorem cal_J5_checkIndex : CalS yJ5_checkIndex wJ5_checkIndex 3 3 := ⟨lw_meth q444, q443, q78, CodeOf.of q444, ⟨by decide, by decide⟩, (by decide +kernel), by decide⟩
abbrev wJ4_indexOf : List Cond := ws_ yJ4_indexOf cJ4_indexOf 4 (some .int)
theorem cal_J4_indexOf : CalS yJ4_indexOf wJ4_indexOf 4 4 := ⟨lw_meth q485, q484, q77, CodeOf.of q485, ⟨by decide, by decide⟩, (by decide +kernel), by decide⟩
abbrev wJ4_canEncode : List Cond := ws_ yJ4_canEncode cJ4_canEncode 1 (some .boolean)
theorem cal_J4_canEncode : CalS yJ4_canEncode wJ4_canEncode 1 1 := ⟨lw_meth q488, q487, q77, CodeOf.of q488, ⟨by decide, by decide⟩, (by decide +kernel), by decide⟩
abbrev wJ4_indexOfChar : List Cond := ws_ yJ4_indexOfChar cJ4_indexOfChar 6 (some .int)
theorem cal_J4_indexOfChar : CalS yJ4_indexOfChar wJ4_indexOfChar 6 4 := ⟨lw_meth q493, q492, q77, CodeOf.of q493, ⟨by decide, by decide⟩, (by decide +kernel), by decide⟩
section JS
variable {Γ : Gam} {A : Nat → Prop} {P : PH → Prop} {a v : Nat} {bs : List Int32}
theorem c_Jcoder (hΓ : GOK Γ) (hS : sLs Γ a v bs) : Ct Γ A yJ3_coder wJ3_coder 1 0 0 [.ref a] P (RI fun r h => r = 0 ∧ P h) := by
  refine Ct.of (cc := cJ3_coder) (nL := 1) (ret := (some .byte)) (ls := [some (.ref a)]) rfl rfl rfl (nle rfl) ?_
  intro K hK hQ
  refine j_gst (pc := 0) hK (lt_compact hΓ) q424 dJ3_coder_0 ?_
  refine j_if_eq (pc := 3) (tgt := 13) hK dJ3_coder_3 (by decide) (fun c3 => absurd c3 (by decide)) (fun c3 => ?_)
  refine j_aload_n (pc := 6) hK dJ3_coder_6 rfl ?_
  refine j_scod (pc := 7) hK hS q1564 dJ3_coder_7 ?_
  refine j_goto (pc := 10) (tgt := 14) hK dJ3_coder_10 (by decide) ?_
  exact j_zretq (pc := 14) hK hQ (nle rfl) (nle rfl) dJ3_coder_14 (fun h w => ⟨rfl, _, rfl, rfl, w⟩)
theorem c_JisLatin1 (hΓ : GOK Γ) (hS : sLs Γ a v bs) : Ct Γ A yJ3_isLatin1 wJ3_isLatin1 1 0 0 [.ref a] P (RI fun r h => r = b2i True ∧ P h) := by
  refine Ct.of (cc := cJ3_isLatin1) (nL := 1) (ret := (some .boolean)) (ls := [some (.ref a)]) rfl rfl rfl (nle rfl) ?_
  intro K hK hQ
  refine j_gst (pc := 0) hK (lt_compact hΓ) q424 dJ3_isLatin1_0 ?_
  refine j_if_eq (pc := 3) (tgt := 17) hK dJ3_isLatin1_3 (by decide) (fun c3 => absurd c3 (by decide)) (fun c3 => ?_)
  refine j_aload_n (pc := 6) hK dJ3_isLatin1_6 rfl ?_
  refine j_scod (pc := 7) hK hS q1564 dJ3_isLatin1_7 ?_
  refine j_if_ne (pc := 10) (tgt := 17) hK dJ3_isLatin1_10 (by decide) (fun c10 => absurd (by decide) c10) (fun c10 => ?_)
  refine j_iconst (pc := 13) (v := 1) hK dJ3_isLatin1_13 (by decide) ?_
  refine j_goto (pc := 14) (tgt := 18) hK dJ3_isLatin1_14 (by decide) ?_
  exact j_bret (pc := 18) hK hQ (nle rfl) (nle rfl) dJ3_isLatin1_18 (fun h w => ⟨Or.inr rfl, _, rfl, rfl, w⟩)
theorem c_Jlength (hΓ : GOK Γ) (hS : sLs Γ a v bs) : Ct Γ A yJ3_length wJ3_length 2 0 0 [.ref a] P (RI fun r h => r = nI bs.length ∧ P h) := by
  refine Ct.of (cc := cJ3_length) (nL := 1) (ret := (some .int)) (ls := [some (.ref a)]) rfl rfl rfl (nle rfl) ?_
  intro K hK hQ
  refine j_aload_n (pc := 0) hK dJ3_length_0 rfl ?_
  refine j_sval (pc := 1) hK hS q1563 dJ3_length_1 ?_
  refine j_slen (pc := 4) hK hS dJ3_length_4 ?_
  refine j_aload_n (pc := 5) hK dJ3_length_5 rfl ?_
  refine j_callL (pc := 6) hK hQ (c_Jcoder hΓ hS) cal_J3_coder hS q420 dJ3_length_6 rfl rfl (nle rfl) (nle rfl) (nle rfl) (nle rfl) (kr_i fun r6 => ?_) kx_i
  refine J.pre fun e6 => ?_
  subst e6
  refine j_ishr (pc := 9) hK dJ3_length_9 ?_
  exact j_iret (pc := 10) hK hQ (nle rfl) (nle rfl) dJ3_length_10 (fun h w => ⟨_, rfl, by simp, w⟩)
theorem c_J5a {i n : Nat} (hi : i < n) (hn : n < 2 ^ 31) : Ct Γ A yJ5_checkIndex wJ5_checkIndex 1 0 0 [.int (nI i), .int (nI n), .null] P (RI fun r h => r = nI i ∧ P h) := by
  refine Ct.of (cc := cJ5_checkIndex) (nL := 3) (ret := (some .int)) (ls := [some (.int (nI i)), some (.int (nI n)), some .null]) rfl rfl rfl (nle rfl) ?_
  intro K hK hQ
  refine j_iload_n (pc := 0) hK dJ5_checkIndex_0 rfl ?_
  refine j_if_lt (pc := 1) (tgt := 9) hK dJ5_checkIndex_1 (by decide) (fun c1 => absurd c1 (nI_pos (by omega))) (fun c1 => ?_)
  refine j_iload_n (pc := 4) hK dJ5_checkIndex_4 rfl ?_
  refine j_iload_n (pc := 5) hK dJ5_checkIndex_5 rfl ?_
  refine j_icmp_lt (pc := 6) (tgt := 16) hK dJ5_checkIndex_6 (by decide) (fun c6 => ?_) (fun c6 => absurd (nI_lt hi (by omega)) c6)
  refine j_iload_n (pc := 16) hK dJ5_checkIndex_16 rfl ?_
  exact j_iret (pc := 17) hK hQ (nle rfl) (nle rfl) dJ5_checkIndex_17 (fun h w => ⟨_, rfl, rfl, w⟩)
theorem c_J5b {i n x : Nat} (hi : i < n) (hn : n < 2 ^ 31) : Ct Γ A yJ5_checkIndex wJ5_checkIndex 1 0 0 [.int (nI i), .int (nI n), .ref x] P (RI fun r h => r = nI i ∧ P h) := by
  refine Ct.of (cc := cJ5_checkIndex) (nL := 3) (ret := (some .int)) (ls := [some (.int (nI i)), some (.int (nI n)), some (.ref x)]) rfl rfl rfl (nle rfl) ?_
  intro K hK hQ
  refine j_iload_n (pc := 0) hK dJ5_checkIndex_0 rfl ?_
  refine j_if_lt (pc := 1) (tgt := 9) hK dJ5_checkIndex_1 (by decide) (fun c1 => absurd c1 (nI_pos (by omega))) (fun c1 => ?_)
  refine j_iload_n (pc := 4) hK dJ5_checkIndex_4 rfl ?_
  refine j_iload_n (pc := 5) hK dJ5_checkIndex_5 rfl ?_
  refine j_icmp_lt (pc := 6) (tgt := 16) hK dJ5_checkIndex_6 (by decide) (fun c6 => ?_) (fun c6 => absurd (nI_lt hi (by omega)) c6)
  refine j_iload_n (pc := 16) hK dJ5_checkIndex_16 rfl ?_
  exact j_iret (pc := 17) hK hQ (nle rfl) (nle rfl) dJ5_checkIndex_17 (fun h w => ⟨_, rfl, rfl, w⟩)
theorem c_J5checkIndex {i n : Nat} {w : Value} (hw : w = .null ∨ ∃ x, w = .ref x) (hi : i < n) (hn : n < 2 ^ 31) : Ct Γ A yJ5_checkIndex wJ5_checkIndex 1 0 0 [.int (nI i), .int (nI n), w] P (RI fun r h => r = nI i ∧ P h) := by
  rcases hw with rfl | ⟨x, rfl⟩
  · exact c_J5a hi hn
  · exact c_J5b hi hn
theorem c_J3checkIndex (hΓ : GOK Γ) {i n : Nat} (hi : i < n) (hn : n < 2 ^ 31) : Ct Γ A yJ3_checkIndex wJ3_checkIndex 2 0 0 [.int (nI i), .int (nI n)] P (RV P) := by
  obtain ⟨w, hw, hT⟩ := lt_form hΓ
  refine Ct.of (cc := cJ3_checkIndex) (nL := 2) (ret := none) (ls := [some (.int (nI i)), some (.int (nI n))]) rfl rfl rfl (nle rfl) ?_
  intro K hK hQ
  refine j_iload_n (pc := 0) hK dJ3_checkIndex_0 rfl ?_
  refine j_iload_n (pc := 1) hK dJ3_checkIndex_1 rfl ?_
  refine j_gst (pc := 2) hK hT q440 dJ3_checkIndex_2 ?_
  refine j_callS (pc := 5) hK hQ (c_J5checkIndex hw hi hn) cal_J5_checkIndex q442 dJ3_checkIndex_5 rfl rfl (nle rfl) (nle rfl) (nle rfl) (nle rfl) (kr_i fun r5 => ?_) kx_i
  refine J.pre fun e5 => ?_
  subst e5
  refine j_pop (pc := 8) hK dJ3_checkIndex_8 rfl ?_
  exact j_vret (pc := 9) hK hQ (nle rfl) (nle rfl) dJ3_checkIndex_9 (fun h w => ⟨rfl, w⟩)
theorem chI_n (x : Int32) : narrow .char (.int (chI x)) = .int (chI x) := by
  unfold chI narrow
  generalize (x &&& 255).toUInt32 = y
  have : (y % 65536).toInt32.toUInt32.toUInt16.toUInt32 = y % 65536 := by
    apply UInt32.toNat_inj.mp
    simp
  simp only [UInt32.toUInt32_toInt32] at this ⊢
  rw [this]
theorem c_J4charAt (hΓ : GOK Γ) (hS : sLs Γ a v bs) {i : Nat} (hi : i < bs.length) : Ct Γ A yJ4_charAt wJ4_charAt 3 0 0 [.ref v, .int (nI i)] P (RI fun r h => r = chI (bs.getD i 0) ∧ P h) := by
  refine Ct.of (cc := cJ4_charAt) (nL := 2) (ret := (some .char)) (ls := [some (.ref v), some (.int (nI i))]) rfl rfl rfl (nle rfl) ?_
  intro K hK hQ
  refine j_iload_n (pc := 0) hK dJ4_charAt_0 rfl ?_
  refine j_aload_n (pc := 1) hK dJ4_charAt_1 rfl ?_
  refine j_slen (pc := 2) hK hS dJ4_charAt_2 ?_
  refine j_callS (pc := 3) hK hQ (c_J3checkIndex hΓ hi (by obtain ⟨_, _, _, _, _, _, _, _, _, _, _, _, _, hz⟩ := hS; exact hz)) cal_J3_checkIndex q437 dJ4_charAt_3 rfl rfl (nle rfl) (nle rfl) (nle rfl) (nle rfl) (kr_v ?_) kx_v
  refine j_aload_n (pc := 6) hK dJ4_charAt_6 rfl ?_
  refine j_iload_n (pc := 7) hK dJ4_charAt_7 rfl ?_
  refine j_sbal (pc := 8) hK hS hi dJ4_charAt_8 ?_
  refine j_sipush (pc := 9) (v := 255) hK dJ4_charAt_9 (by decide) ?_
  refine j_iand (pc := 12) hK dJ4_charAt_12 ?_
  refine j_i2c (pc := 13) hK dJ4_charAt_13 ?_
  exact j_zretq (pc := 14) hK hQ (nle rfl) (nle rfl) dJ4_charAt_14 (fun h w => ⟨chI_n _, _, rfl, rfl, w⟩)
theorem c_JcharAt (hΓ : GOK Γ) (hS : sLs Γ a v bs) {i : Nat} (hi : i < bs.length) : Ct Γ A yJ3_charAt wJ3_charAt 4 0 0 [.ref a, .int (nI i)] P (RI fun r h => r = chI (bs.getD i 0) ∧ P h) := by
  refine Ct.of (cc := cJ3_charAt) (nL := 2) (ret := (some .char)) (ls := [some (.ref a), some (.int (nI i))]) rfl rfl rfl (nle rfl) ?_
  intro K hK hQ
  refine j_aload_n (pc := 0) hK dJ3_charAt_0 rfl ?_
  refine j_callL (pc := 1) hK hQ (c_JisLatin1 hΓ hS) cal_J3_isLatin1 hS q430 dJ3_charAt_1 rfl rfl (nle rfl) (nle rfl) (nle rfl) (nle rfl) (kr_i fun r1 => ?_) kx_i
  refine J.pre fun e1 => ?_
  subst e1
  refine j_if_eq_b (pc := 4) (tgt := 16) hK dJ3_charAt_4 (by decide) (fun c4 => absurd trivial c4) (fun c4 => ?_)
  refine j_aload_n (pc := 7) hK dJ3_charAt_7 rfl ?_
  refine j_sval (pc := 8) hK hS q1563 dJ3_charAt_8 ?_
  refine j_iload_n (pc := 11) hK dJ3_charAt_11 rfl ?_
  refine j_callS (pc := 12) hK hQ (c_J4charAt hΓ hS hi) cal_J4_charAt q434 dJ3_charAt_12 rfl rfl (nle rfl) (nle rfl) (nle rfl) (nle rfl) (kr_i fun r12 => ?_) kx_i
  refine J.pre fun e12 => ?_
  subst e12
  exact j_zretq (pc := 15) hK hQ (nle rfl) (nle rfl) dJ3_charAt_15 (fun h w => ⟨chI_n _, _, rfl, rfl, w⟩)
end JS
