/-! String.indexOf on a string constant -/
set_option maxRecDepth 100000
section JX
variable {Γ : Gam} {A : Nat → Prop} {P : PH → Prop} {a v : Nat} {bs : List Int32}
theorem minI_s (x : Int32) : minI x x = x := by unfold minI; split <;> rfl
theorem c_J4ixc (hΓ : GOK Γ) (hS : sLs Γ a v bs) (hl : bs.length < 2 ^ 31) {c : Int32} : Ct Γ A yJ4_indexOfChar wJ4_indexOfChar 1 0 0 [.ref v, .int c, .int 0, .int (nI bs.length)] P (RI fun r h => (r < 0 ↔ ∀ i, i < bs.length → ¬ bs.getD i 0 = c.toInt8.toInt32) ∧ P h) := by
  refine Ct.of (cc := cJ4_indexOfChar) (nL := 6) (ret := (some .int)) (ls := [some (.ref v), some (.int c), some (.int 0), some (.int (nI bs.length)), none, none]) rfl rfl rfl (nle rfl) ?_
  intro K hK hQ
  have loop : ∀ (r i : Nat), i + r = bs.length → (∀ j, j < i → ¬ bs.getD j 0 = c.toInt8.toInt32) → J Γ A K 7 [some (.ref v), some (.int c), some (.int 0), some (.int (nI bs.length)), some (.int c.toInt8.toInt32), some (.int (nI i))] [] P 0 0 := by
    intro r
    induction r with
    | zero =>
      intro i hi hj
      have : i = bs.length := by omega
      subst this
      refine j_iload (pc := 7) hK dJ4_indexOfChar_7 rfl ?_
      refine j_iload_n (pc := 9) hK dJ4_indexOfChar_9 rfl ?_
      refine j_icmp_ge (pc := 10) (tgt := 31) hK dJ4_indexOfChar_10 (by decide) (fun c10 => ?_) (fun c10 => absurd (Int32.le_refl _) c10)
      refine j_iconst (pc := 31) (v := (-1)) hK dJ4_indexOfChar_31 (by decide) ?_
      exact j_iret (pc := 32) hK hQ (nle rfl) (nle rfl) dJ4_indexOfChar_32 (fun h w => ⟨_, rfl, ⟨fun _ => hj, fun _ => by decide⟩, w⟩)
    | succ r ih =>
      intro i hi hj
      refine j_iload (pc := 7) hK dJ4_indexOfChar_7 rfl ?_
      refine j_iload_n (pc := 9) hK dJ4_indexOfChar_9 rfl ?_
      refine j_icmp_ge (pc := 10) (tgt := 31) hK dJ4_indexOfChar_10 (by decide) (fun c10 => absurd c10 (nI_ge (by omega) (by omega))) (fun c10 => ?_)
      refine j_aload_n (pc := 13) hK dJ4_indexOfChar_13 rfl ?_
      refine j_iload (pc := 14) hK dJ4_indexOfChar_14 rfl ?_
      refine j_sbal (pc := 16) hK hS (show i < bs.length by omega) dJ4_indexOfChar_16 ?_
      refine j_iload (pc := 17) hK dJ4_indexOfChar_17 rfl ?_
      refine j_icmp_ne (pc := 19) (tgt := 25) hK dJ4_indexOfChar_19 (by decide) (fun c19 => ?_) (fun c19 => ?_)
      · refine j_iinc5 (pc := 25) (v := 1) hK dJ4_indexOfChar_25 (by decide) rfl (by decide) ?_
        refine j_goto (pc := 28) (tgt := 7) hK dJ4_indexOfChar_28 (by decide) ?_
        rw [nI_1]
        exact ih (i + 1) (by omega) (fun j hj2 => by
          rcases Nat.lt_or_ge j i with z | z
          · exact hj j z
          · have : j = i := by omega
            rw [this]; exact c19)
      · refine j_iload (pc := 22) hK dJ4_indexOfChar_22 rfl ?_
        exact j_iret (pc := 24) hK hQ (nle rfl) (nle rfl) dJ4_indexOfChar_24 (fun h w => ⟨_, rfl, ⟨fun z => absurd z (nI_pos (by omega)), fun z => absurd c19 (z i (by omega))⟩, w⟩)
  refine j_iload_n (pc := 0) hK dJ4_indexOfChar_0 rfl ?_
  refine j_i2b (pc := 1) hK dJ4_indexOfChar_1 ?_
  refine j_ist4 (pc := 2) hK dJ4_indexOfChar_2 (by decide) rfl ?_
  refine j_iload_n (pc := 4) hK dJ4_indexOfChar_4 rfl ?_
  refine j_ist5 (pc := 5) hK dJ4_indexOfChar_5 (by decide) rfl ?_
  exact loop bs.length 0 (by omega) (fun j hj => by omega)
theorem c_J4can {c : Int32} (h : 0 ≤ c ∧ c ≤ 255) : Ct Γ A yJ4_canEncode wJ4_canEncode 1 0 0 [.int c] P (RI fun r h => r = b2i True ∧ P h) := by
  refine Ct.of (cc := cJ4_canEncode) (nL := 1) (ret := (some .boolean)) (ls := [some (.int c)]) rfl rfl rfl (nle rfl) ?_
  intro K hK hQ
  refine j_iload_n (pc := 0) hK dJ4_canEncode_0 rfl ?_
  refine j_if_lt (pc := 1) (tgt := 15) hK dJ4_canEncode_1 (by decide) (fun c1 => absurd c1 (Int32.not_lt.mpr h.1)) (fun c1 => ?_)
  refine j_iload_n (pc := 4) hK dJ4_canEncode_4 rfl ?_
  refine j_sipush (pc := 5) (v := 255) hK dJ4_canEncode_5 (by decide) ?_
  refine j_icmp_gt (pc := 8) (tgt := 15) hK dJ4_canEncode_8 (by decide) (fun c8 => absurd c8 (Int32.not_lt.mpr h.2)) (fun c8 => ?_)
  refine j_iconst (pc := 11) (v := 1) hK dJ4_canEncode_11 (by decide) ?_
  refine j_goto (pc := 12) (tgt := 16) hK dJ4_canEncode_12 (by decide) ?_
  exact j_bret (pc := 16) hK hQ (nle rfl) (nle rfl) dJ4_canEncode_16 (fun h w => ⟨Or.inr rfl, _, rfl, rfl, w⟩)
theorem c_J4ix (hΓ : GOK Γ) (hS : sLs Γ a v bs) (hl : bs.length < 2 ^ 31) (hl0 : 0 < bs.length) {c : Int32} (hc : 0 ≤ c ∧ c ≤ 255) : Ct Γ A yJ4_indexOf wJ4_indexOf 2 0 0 [.ref v, .int c, .int 0, .int (nI bs.length)] P (RI fun r h => (r < 0 ↔ ∀ i, i < bs.length → ¬ bs.getD i 0 = c.toInt8.toInt32) ∧ P h) := by
  refine Ct.of (cc := cJ4_indexOf) (nL := 4) (ret := (some .int)) (ls := [some (.ref v), some (.int c), some (.int 0), some (.int (nI bs.length))]) rfl rfl rfl (nle rfl) ?_
  intro K hK hQ
  refine j_iload_n (pc := 0) hK dJ4_indexOf_0 rfl ?_
  refine j_callS (pc := 1) hK hQ (c_J4can hc) cal_J4_canEncode q486 dJ4_indexOf_1 rfl rfl (nle rfl) (nle rfl) (nle rfl) (nle rfl) (kr_i fun r1 => ?_) kx_i
  refine J.pre fun e1 => ?_
  subst e1
  refine j_if_ne_b (pc := 4) (tgt := 9) hK dJ4_indexOf_4 (by decide) (fun c4 => ?_) (fun c4 => absurd trivial c4)
  refine j_iload_n (pc := 9) hK dJ4_indexOf_9 rfl ?_
  refine j_iconst (pc := 10) (v := 0) hK dJ4_indexOf_10 (by decide) ?_
  refine j_mmax (pc := 11) hK hQ q489 dJ4_indexOf_11 (nle rfl) (nle rfl) (nle rfl) ?_
  rw [show maxI 0 0 = 0 by decide]
  refine j_ist2 (pc := 14) hK dJ4_indexOf_14 (by decide) rfl ?_
  refine j_iload_n (pc := 15) hK dJ4_indexOf_15 rfl ?_
  refine j_aload_n (pc := 16) hK dJ4_indexOf_16 rfl ?_
  refine j_slen (pc := 17) hK hS dJ4_indexOf_17 ?_
  refine j_mmin (pc := 18) hK hQ q490 dJ4_indexOf_18 (nle rfl) (nle rfl) (nle rfl) ?_
  rw [minI_s]
  refine j_ist3 (pc := 21) hK dJ4_indexOf_21 (by decide) rfl ?_
  refine j_iload_n (pc := 22) hK dJ4_indexOf_22 rfl ?_
  refine j_iload_n (pc := 23) hK dJ4_indexOf_23 rfl ?_
  refine j_icmp_lt (pc := 24) (tgt := 29) hK dJ4_indexOf_24 (by decide) (fun c24 => ?_) (fun c24 => absurd (by rw [show (0 : Int32) = nI 0 by decide]; exact nI_lt hl0 hl) c24)
  refine j_aload_n (pc := 29) hK dJ4_indexOf_29 rfl ?_
  refine j_iload_n (pc := 30) hK dJ4_indexOf_30 rfl ?_
  refine j_iload_n (pc := 31) hK dJ4_indexOf_31 rfl ?_
  refine j_iload_n (pc := 32) hK dJ4_indexOf_32 rfl ?_
  refine j_callS (pc := 33) hK hQ (c_J4ixc hΓ hS hl) cal_J4_indexOfChar q491 dJ4_indexOf_33 rfl rfl (nle rfl) (nle rfl) (nle rfl) (nle rfl) (kr_i fun r33 => ?_) kx_i
  refine J.pre fun e33 => ?_
  exact j_iret (pc := 36) hK hQ (nle rfl) (nle rfl) dJ4_indexOf_36 (fun h w => ⟨_, rfl, e33, w⟩)
theorem c_J3ix2 (hΓ : GOK Γ) (hS : sLs Γ a v bs) (hl : bs.length < 2 ^ 31) (hl0 : 0 < bs.length) {c : Int32} (hc : 0 ≤ c ∧ c ≤ 255) : Ct Γ A yJ3_indexOf_2 wJ3_indexOf_2 3 0 0 [.ref a, .int c, .int 0] P (RI fun r h => (r < 0 ↔ ∀ i, i < bs.length → ¬ bs.getD i 0 = c.toInt8.toInt32) ∧ P h) := by
  refine Ct.of (cc := cJ3_indexOf_2) (nL := 3) (ret := (some .int)) (ls := [some (.ref a), some (.int c), some (.int 0)]) rfl rfl rfl (nle rfl) ?_
  intro K hK hQ
  refine j_aload_n (pc := 0) hK dJ3_indexOf_2_0 rfl ?_
  refine j_callL (pc := 1) hK hQ (c_JisLatin1 hΓ hS) cal_J3_isLatin1 hS q430 dJ3_indexOf_2_1 rfl rfl (nle rfl) (nle rfl) (nle rfl) (nle rfl) (kr_i fun r1 => ?_) kx_i
  refine J.pre fun e1 => ?_
  subst e1
  refine j_if_eq_b (pc := 4) (tgt := 23) hK dJ3_indexOf_2_4 (by decide) (fun c4 => absurd trivial c4) (fun c4 => ?_)
  refine j_aload_n (pc := 7) hK dJ3_indexOf_2_7 rfl ?_
  refine j_sval (pc := 8) hK hS q1563 dJ3_indexOf_2_8 ?_
  refine j_iload_n (pc := 11) hK dJ3_indexOf_2_11 rfl ?_
  refine j_iload_n (pc := 12) hK dJ3_indexOf_2_12 rfl ?_
  refine j_aload_n (pc := 13) hK dJ3_indexOf_2_13 rfl ?_
  refine j_callL (pc := 14) hK hQ (c_Jlength hΓ hS) cal_J3_length hS q482 dJ3_indexOf_2_14 rfl rfl (nle rfl) (nle rfl) (nle rfl) (nle rfl) (kr_i fun r14 => ?_) kx_i
  refine J.pre fun e14 => ?_
  subst e14
  refine j_callS (pc := 17) hK hQ (c_J4ix hΓ hS hl hl0 hc) cal_J4_indexOf q483 dJ3_indexOf_2_17 rfl rfl (nle rfl) (nle rfl) (nle rfl) (nle rfl) (kr_i fun r17 => ?_) kx_i
  refine J.pre fun e17 => ?_
  refine j_goto (pc := 20) (tgt := 36) hK dJ3_indexOf_2_20 (by decide) ?_
  exact j_iret (pc := 36) hK hQ (nle rfl) (nle rfl) dJ3_indexOf_2_36 (fun h w => ⟨_, rfl, e17, w⟩)
theorem c_J3ix (hΓ : GOK Γ) (hS : sLs Γ a v bs) (hl : bs.length < 2 ^ 31) (hl0 : 0 < bs.length) {c : Int32} (hc : 0 ≤ c ∧ c ≤ 255) : Ct Γ A yJ3_indexOf wJ3_indexOf 4 0 0 [.ref a, .int c] P (RI fun r h => (r < 0 ↔ ∀ i, i < bs.length → ¬ bs.getD i 0 = c.toInt8.toInt32) ∧ P h) := by
  refine Ct.of (cc := cJ3_indexOf) (nL := 2) (ret := (some .int)) (ls := [some (.ref a), some (.int c)]) rfl rfl rfl (nle rfl) ?_
  intro K hK hQ
  refine j_aload_n (pc := 0) hK dJ3_indexOf_0 rfl ?_
  refine j_iload_n (pc := 1) hK dJ3_indexOf_1 rfl ?_
  refine j_iconst (pc := 2) (v := 0) hK dJ3_indexOf_2 (by decide) ?_
  refine j_callL (pc := 3) hK hQ (c_J3ix2 hΓ hS hl hl0 hc) cal_J3_indexOf_2 hS q478 dJ3_indexOf_3 rfl rfl (nle rfl) (nle rfl) (nle rfl) (nle rfl) (kr_i fun r3 => ?_) kx_i
  refine J.pre fun e3 => ?_
  exact j_iret (pc := 6) hK hQ (nle rfl) (nle rfl) dJ3_indexOf_6 (fun h w => ⟨_, rfl, e3, w⟩)
theorem sg_all : ∀ c, c < 256 → ((∀ i, i < wSigns.length → ¬ wSigns.getD i 0 = (nI c).toInt8.toInt32) ↔ ¬ isSg (nI c)) := by decide +kernel
end JX
