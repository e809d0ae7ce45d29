/-! the reference's small methods -/
set_option maxRecDepth 100000
section Y1
variable {Γ : Gam} {A : Nat → Prop} {L : Nat → Nat} {f : Nat → Int32} {g : Nat → Int32 → Int32} {T : TX} {P : PH → Prop}
theorem c_Ywithin (v lo hi : Int32) : Ct Γ A yX8_within wX8_within 1 0 0 [.int v, .int lo, .int hi] P (RI fun r h => r = b2i (lo ≤ v ∧ v ≤ hi) ∧ P h) := by
  refine Ct.of (cc := cX8_within) (nL := 3) (ret := (some .boolean)) (ls := [some (.int v), some (.int lo), some (.int hi)]) rfl rfl rfl (nle rfl) ?_
  intro K hK hQ
  refine j_iload_n (pc := 0) hK dX8_within_0 rfl ?_
  refine j_iload_n (pc := 1) hK dX8_within_1 rfl ?_
  refine j_icmp_lt (pc := 2) (tgt := 14) hK dX8_within_2 (by decide) (fun c2 => ?_) (fun c2 => ?_)
  · refine j_iconst (pc := 14) (v := 0) hK dX8_within_14 (by decide) ?_
    exact j_bret (pc := 15) hK hQ (nle rfl) (nle rfl) dX8_within_15 (fun h w => ⟨by decide, _, rfl, by first | (rw [b2i_t]; constructor <;> first | assumption | grind) | (rw [b2i_f]; grind), w⟩)
  · refine j_iload_n (pc := 5) hK dX8_within_5 rfl ?_
    refine j_iload_n (pc := 6) hK dX8_within_6 rfl ?_
    refine j_icmp_gt (pc := 7) (tgt := 14) hK dX8_within_7 (by decide) (fun c7 => ?_) (fun c7 => ?_)
    · refine j_iconst (pc := 14) (v := 0) hK dX8_within_14 (by decide) ?_
      exact j_bret (pc := 15) hK hQ (nle rfl) (nle rfl) dX8_within_15 (fun h w => ⟨by decide, _, rfl, by first | (rw [b2i_t]; constructor <;> first | assumption | grind) | (rw [b2i_f]; grind), w⟩)
    · refine j_iconst (pc := 10) (v := 1) hK dX8_within_10 (by decide) ?_
      refine j_goto (pc := 11) (tgt := 15) hK dX8_within_11 (by decide) ?_
      exact j_bret (pc := 15) hK hQ (nle rfl) (nle rfl) dX8_within_15 (fun h w => ⟨by decide, _, rfl, by first | (rw [b2i_t]; constructor <;> first | assumption | grind) | (rw [b2i_f]; grind), w⟩)
theorem c_YisBoat (b : Int32) : Ct Γ A yX8_isBoat wX8_isBoat 2 0 0 [.ref (L 40), .int b] (YI Γ L f g T) (RI fun r h => r = b2i (0 ≤ b ∧ b ≤ f 0 - 1) ∧ YI Γ L f g T h) := by
  refine Ct.of (cc := cX8_isBoat) (nL := 2) (ret := (some .boolean)) (ls := [some (.ref (L 40)), some (.int b)]) rfl rfl rfl (nle rfl) ?_
  intro K hK hQ
  refine j_iload_n (pc := 0) hK dX8_isBoat_0 rfl ?_
  refine j_iconst (pc := 1) (v := 0) hK dX8_isBoat_1 (by decide) ?_
  refine j_aload_n (pc := 2) hK dX8_isBoat_2 rfl ?_
  refine yi_getI (pc := 3) (k := 0) hK (by decide) rfl rfl q1240 rfl dX8_isBoat_3 ?_
  refine j_iconst (pc := 6) (v := 1) hK dX8_isBoat_6 (by decide) ?_
  refine j_isub (pc := 7) hK dX8_isBoat_7 ?_
  refine j_callS (pc := 8) hK hQ (c_Ywithin _ _ _) cal_X8_within q1167 dX8_isBoat_8 rfl rfl (nle rfl) (nle rfl) (nle rfl) (nle rfl) (kr_i fun r8 => ?_) kx_i
  refine J.pre fun e8 => ?_
  subst e8
  exact j_bret (pc := 11) hK hQ (nle rfl) (nle rfl) dX8_isBoat_11 (fun h w => ⟨by unfold b2i; split <;> simp, _, rfl, rfl, w⟩)
theorem c_Yfar (a b : Int32) : Ct Γ A yX8_far wX8_far 1 0 0 [.int a, .int b] P (RI fun r h => r = absI (a / 8 - b / 8) + absI (a % 8 - b % 8) ∧ P h) := by
  refine Ct.of (cc := cX8_far) (nL := 2) (ret := (some .int)) (ls := [some (.int a), some (.int b)]) rfl rfl rfl (nle rfl) ?_
  intro K hK hQ
  refine j_iload_n (pc := 0) hK dX8_far_0 rfl ?_
  refine j_bipush (pc := 1) (v := 8) hK dX8_far_1 (by decide) ?_
  refine j_idiv (pc := 3) hK dX8_far_3 (by decide) ?_
  refine j_iload_n (pc := 4) hK dX8_far_4 rfl ?_
  refine j_bipush (pc := 5) (v := 8) hK dX8_far_5 (by decide) ?_
  refine j_idiv (pc := 7) hK dX8_far_7 (by decide) ?_
  refine j_isub (pc := 8) hK dX8_far_8 ?_
  refine j_mabs (pc := 9) hK hQ q1398 dX8_far_9 (nle rfl) (nle rfl) (nle rfl) ?_
  refine j_iload_n (pc := 12) hK dX8_far_12 rfl ?_
  refine j_bipush (pc := 13) (v := 8) hK dX8_far_13 (by decide) ?_
  refine j_irem (pc := 15) hK dX8_far_15 (by decide) ?_
  refine j_iload_n (pc := 16) hK dX8_far_16 rfl ?_
  refine j_bipush (pc := 17) (v := 8) hK dX8_far_17 (by decide) ?_
  refine j_irem (pc := 19) hK dX8_far_19 (by decide) ?_
  refine j_isub (pc := 20) hK dX8_far_20 ?_
  refine j_mabs (pc := 21) hK hQ q1398 dX8_far_21 (nle rfl) (nle rfl) (nle rfl) ?_
  refine j_iadd (pc := 24) hK dX8_far_24 ?_
  exact j_iret (pc := 25) hK hQ (nle rfl) (nle rfl) dX8_far_25 (fun h w => ⟨_, rfl, rfl, w⟩)
end Y1
