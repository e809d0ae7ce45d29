/-! the class reads: byteAt, isKey, isSign, placeIn, word, digits, next -/
set_option maxRecDepth 100000
def XZ (Γ : Gam) (L : Nat → Nat) (T : TX) (tm : Nat) (R : PH → Prop) (x : XD) (h : PH) : Prop := XC Γ L T tm x h ∧ R h
section XZR
variable {Γ : Gam} {A : Nat → Prop} {K : JC} {cc : ByteArray} {nL : Nat} {own : String} {hh : List (Nat × Nat × Nat × Nat)} {pc : Nat} {ls : List (Option Value)} {st : List Value} {cs ss d mc ms : Nat} {ret : Option FieldType} {Φ : Outcome → PH → Prop} {L : Nat → Nat} {f : Nat → Int32} {g : Nat → Int32 → Int32} {T : TX} {φ φ' : XD → Prop} {R : PH → Prop} {P : PH → Prop} {tm : Nat} {x : XD}
theorem xz_open (k : ∀ x, XR f g x → φ x → J Γ A K pc ls st (XZ Γ L T (f 17).toNatClampNeg R x) cs ss) : J Γ A K pc ls st (XQ Γ L f g T φ R) cs ss := fun h H locs arr ⟨⟨x, w, r, t, s, e⟩, hr⟩ hRp hL => k x r e h H locs arr ⟨⟨w, t, s⟩, hr⟩ hRp hL
theorem xz_close {h : PH} (w : XZ Γ L T (f 17).toNatClampNeg R x h) (r : XR f g x) (e : φ x) : XQ Γ L f g T φ R h := ⟨xi_close w.1 rfl r e, w.2⟩
theorem xz_put {k idx : Nat} {v : Int32} (hR : StR R) (hK : Jok Γ A K cc nL RX0 hh) (hk : k < 35) (hy : xar k = false) (hlink : Cond.fieldLink RX0 idx RX0 (TX0 k).2.1 (TX0 k).2.2.1 ∈ lw_all) (h1 : (TX0 k).1 = RX0) (h2 : (TX0 k).2.2.2 = false) (hn : narrow (tyX0 k) (.int v) = .int v) (hf : fits (tyX0 k) (.int v) = true) (hd : decode cc pc = .ok (.putfield idx, 3)) (kk : J Γ A K (pc + 3) ls st (XZ Γ L T tm R (xpF x k v)) cs ss) : J Γ A K pc ls (.int v :: .ref (L 35) :: st) (XZ Γ L T tm R x) cs ss :=
  j_put hK (ci := 0) rfl in_X0 tyX0_ok nmX0 hk hlink (fun x h => by rw [h1] at h; exact h) h2 hn hf hd (fun h ⟨⟨w, t, s⟩, hr⟩ => ⟨_, w.at xcs_o, by simp [xfs]; exact hk, by
    rw [xfs_set hy]
    exact ⟨⟨w.put (by rw [xcs_o]; exact fun z => by cases z) xcs_o (fun j hj => xcs_pF hj), t.kept (KN.putO _ (w.at xcs_o) (Or.inl (by decide))) rfl, s⟩, hR _ _ (Kp.putX _ (w.at xcs_o)) hr⟩⟩) kk
end XZR
/-- the tape under x -/
def TP (t : Nat → Int32) (n : Nat) (x : XD) : Prop := x.p 18 = nI n ∧ ∀ k, k < n → x.q 16 (nI k) &&& 255 = t k
theorem and255 (a : Int32) : ∃ n, n ≤ 255 ∧ a &&& 255 = nI n := by
  refine ⟨(a.toBitVec &&& 255#32).toNat, ?_, ?_⟩
  · rw [BitVec.toNat_and]
    exact Nat.and_le_right
  · apply Int32.toBitVec_inj.mp
    show a.toBitVec &&& 255#32 = BitVec.ofNat 32 _
    rw [BitVec.ofNat_toNat, BitVec.setWidth_eq]
def tb (t : Nat → Int32) (n k : Nat) : Int32 := if k < n then t k else -1
theorem TB.tp {t : Nat → Int32} {n a o : Nat} {x : XD} (h : TB t n a o x) : TP t n x := ⟨h.1, h.2.1⟩
theorem TP.rng {t : Nat → Int32} {n : Nat} {x : XD} (h : TP t n x) {k : Nat} (hk : k < n) : 0 ≤ t k ∧ t k ≤ 255 := by
  rw [← h.2 k hk]
  obtain ⟨m, hm, e⟩ := and255 (x.q 16 (nI k))
  rw [e]
  exact ⟨nI_pos' (by omega), by rw [show (255 : Int32) = nI 255 by decide]; exact nI_le hm (by decide)⟩
def eqW (t : Nat → Int32) (F q : Nat) (w : List Int32) : Prop := q - F = w.length ∧ ∀ j, j < w.length → t (F + j) = w.getD j 0
def plc (W : List (List Int32)) (t : Nat → Int32) (F q : Nat) (r : Int32) : Prop := (∃ i, i < 6 ∧ r = nI i ∧ eqW t F q (W.getD i []) ∧ ∀ j, j < i → ¬ eqW t F q (W.getD j [])) ∨ (r = -1 ∧ ∀ i, i < 6 → ¬ eqW t F q (W.getD i []))
section P74
variable {Γ : Gam} {A : Nat → Prop} {L : Nat → Nat} {f : Nat → Int32} {g : Nat → Int32 → Int32} {T : TX} {P : PH → Prop} {x : XD} {tm : Nat} {t : Nat → Int32} {n p o : Nat} {R : PH → Prop} {φ : XD → Prop}
theorem c_XbyteAt (hw : ∀ h, P h → XC Γ L T tm x h) (hT : TP t n x) (hn : n ≤ 160) {k : Nat} (hk : k < 2 ^ 31) : Ct Γ A yX0_byteAt wX0_byteAt 1 0 0 [.ref (L 35), .int (nI k)] P (RI fun r h => r = tb t n k ∧ P h) := by
  refine Ct.of (cc := cX0_byteAt) (nL := 2) (ret := (some .int)) (ls := [some (.ref (L 35)), some (.int (nI k))]) rfl rfl rfl (nle rfl) ?_
  intro K hK hQ
  have done : ∀ v : Int32, v = tb t n k → J Γ A K 22 [some (.ref (L 35)), some (.int (nI k))] [.int v] P 0 0 := by
    intro v hv
    exact j_iret (pc := 22) hK hQ (nle rfl) (nle rfl) dX0_byteAt_22 (fun h w => ⟨_, rfl, hv, w⟩)
  refine j_iload_n (pc := 0) hK dX0_byteAt_0 rfl ?_
  refine j_aload_n (pc := 1) hK dX0_byteAt_1 rfl ?_
  refine xc_get (pc := 2) (k := 18) (v := nI n) hK hw (by decide) rfl hT.1 q769 rfl dX0_byteAt_2 ?_
  refine j_icmp_ge (pc := 5) (tgt := 21) hK dX0_byteAt_5 (by decide) (fun c5 => ?_) (fun c5 => ?_)
  · have hkn : ¬ k < n := fun z => absurd c5 (nI_ge z (by omega))
    refine j_iconst (pc := 21) (v := (-1)) hK dX0_byteAt_21 (by decide) ?_
    exact done _ (by unfold tb; first | exact (if_neg hkn).symm | exact (hT.2 k hkn).trans (if_pos hkn).symm)
  · have hkn : k < n := (nI_ltI hk (by omega)).mp (Int32.not_le.mp c5)
    refine j_aload_n (pc := 8) hK dX0_byteAt_8 rfl ?_
    refine xc_getR (pc := 9) (k := 16) hK hw (by decide) rfl q767 rfl dX0_byteAt_9 ?_
    refine j_iload_n (pc := 12) hK dX0_byteAt_12 rfl ?_
    refine xc_bald (pc := 13) hK hw (vp_in_nI (by omega) (by decide)) rfl dX0_byteAt_13 ?_
    refine j_sipush (pc := 14) (v := 255) hK dX0_byteAt_14 (by decide) ?_
    refine j_iand (pc := 17) hK dX0_byteAt_17 ?_
    refine j_goto (pc := 18) (tgt := 22) hK dX0_byteAt_18 (by decide) ?_
    exact done _ (by unfold tb; first | exact (if_neg hkn).symm | exact (hT.2 k hkn).trans (if_pos hkn).symm)
theorem c_XisSign (hφ : ∀ x, φ x → TKf t n p x) (c : Int32) : Ct Γ A yX0_isSign wX0_isSign 1 0 0 [.ref (L 35), .int c] (XQ Γ L f g T φ R) (RI fun r h => r = b2i (isS t n p c) ∧ XQ Γ L f g T φ R h) := by
  refine Ct.of (cc := cX0_isSign) (nL := 2) (ret := (some .boolean)) (ls := [some (.ref (L 35)), some (.int c)]) rfl rfl rfl (nle rfl) ?_
  intro K hK hQ
  refine xz_open fun x r e => ?_
  have hk := tk_sign (c := c) (hφ x e)
  refine j_aload_n (pc := 0) hK dX0_isSign_0 rfl ?_
  refine xc_get (pc := 1) (k := 21) hK (fun _ w => w.1) (by decide) rfl rfl q772 rfl dX0_isSign_1 ?_
  refine j_iconst (pc := 4) (v := 4) hK dX0_isSign_4 (by decide) ?_
  refine j_icmp_ne (pc := 5) (tgt := 20) hK dX0_isSign_5 (by decide) (fun c5 => ?_) (fun c5 => ?_)
  · have hs : ¬ isS t n p c := fun z => by first | exact c5 (hk.mpr z).1 | exact c13 (hk.mpr z).2
    refine j_iconst (pc := 20) (v := 0) hK dX0_isSign_20 (by decide) ?_
    exact j_bret (pc := 21) hK hQ (nle rfl) (nle rfl) dX0_isSign_21 (fun h w => ⟨by first | exact Or.inr rfl | exact Or.inl rfl, _, rfl, by first | exact (b2i_t hs).symm | exact (b2i_f hs).symm, xz_close w r e⟩)
  · refine j_aload_n (pc := 8) hK dX0_isSign_8 rfl ?_
    refine xc_get (pc := 9) (k := 22) hK (fun _ w => w.1) (by decide) rfl rfl q773 rfl dX0_isSign_9 ?_
    refine j_iload_n (pc := 12) hK dX0_isSign_12 rfl ?_
    refine j_icmp_ne (pc := 13) (tgt := 20) hK dX0_isSign_13 (by decide) (fun c13 => ?_) (fun c13 => ?_)
    · have hs : ¬ isS t n p c := fun z => by first | exact c5 (hk.mpr z).1 | exact c13 (hk.mpr z).2
      refine j_iconst (pc := 20) (v := 0) hK dX0_isSign_20 (by decide) ?_
      exact j_bret (pc := 21) hK hQ (nle rfl) (nle rfl) dX0_isSign_21 (fun h w => ⟨by first | exact Or.inr rfl | exact Or.inl rfl, _, rfl, by first | exact (b2i_t hs).symm | exact (b2i_f hs).symm, xz_close w r e⟩)
    · have hs : isS t n p c := hk.mp ⟨c5, c13⟩
      refine j_iconst (pc := 16) (v := 1) hK dX0_isSign_16 (by decide) ?_
      refine j_goto (pc := 17) (tgt := 21) hK dX0_isSign_17 (by decide) ?_
      exact j_bret (pc := 21) hK hQ (nle rfl) (nle rfl) dX0_isSign_21 (fun h w => ⟨by first | exact Or.inr rfl | exact Or.inl rfl, _, rfl, by first | exact (b2i_t hs).symm | exact (b2i_f hs).symm, xz_close w r e⟩)
theorem c_XisKey (hφ : ∀ x, φ x → TKf t n p x) {k : Nat} (h6 : k < 6) : Ct Γ A yX0_isKey wX0_isKey 1 0 0 [.ref (L 35), .int (nI k)] (XQ Γ L f g T φ R) (RI fun r h => r = b2i (isW t n p (wKeys.getD k [])) ∧ XQ Γ L f g T φ R h) := by
  refine Ct.of (cc := cX0_isKey) (nL := 2) (ret := (some .boolean)) (ls := [some (.ref (L 35)), some (.int (nI k))]) rfl rfl rfl (nle rfl) ?_
  intro K hK hQ
  refine xz_open fun x r e => ?_
  have hk := tk_key h6 (hφ x e)
  refine j_aload_n (pc := 0) hK dX0_isKey_0 rfl ?_
  refine xc_get (pc := 1) (k := 21) hK (fun _ w => w.1) (by decide) rfl rfl q772 rfl dX0_isKey_1 ?_
  refine j_iconst (pc := 4) (v := 1) hK dX0_isKey_4 (by decide) ?_
  refine j_icmp_ne (pc := 5) (tgt := 20) hK dX0_isKey_5 (by decide) (fun c5 => ?_) (fun c5 => ?_)
  · have hs : ¬ isW t n p (wKeys.getD k []) := fun z => by first | exact c5 (hk.mpr z).1 | exact c13 (hk.mpr z).2
    refine j_iconst (pc := 20) (v := 0) hK dX0_isKey_20 (by decide) ?_
    exact j_bret (pc := 21) hK hQ (nle rfl) (nle rfl) dX0_isKey_21 (fun h w => ⟨by first | exact Or.inr rfl | exact Or.inl rfl, _, rfl, by first | exact (b2i_t hs).symm | exact (b2i_f hs).symm, xz_close w r e⟩)
  · refine j_aload_n (pc := 8) hK dX0_isKey_8 rfl ?_
    refine xc_get (pc := 9) (k := 22) hK (fun _ w => w.1) (by decide) rfl rfl q773 rfl dX0_isKey_9 ?_
    refine j_iload_n (pc := 12) hK dX0_isKey_12 rfl ?_
    refine j_icmp_ne (pc := 13) (tgt := 20) hK dX0_isKey_13 (by decide) (fun c13 => ?_) (fun c13 => ?_)
    · have hs : ¬ isW t n p (wKeys.getD k []) := fun z => by first | exact c5 (hk.mpr z).1 | exact c13 (hk.mpr z).2
      refine j_iconst (pc := 20) (v := 0) hK dX0_isKey_20 (by decide) ?_
      exact j_bret (pc := 21) hK hQ (nle rfl) (nle rfl) dX0_isKey_21 (fun h w => ⟨by first | exact Or.inr rfl | exact Or.inl rfl, _, rfl, by first | exact (b2i_t hs).symm | exact (b2i_f hs).symm, xz_close w r e⟩)
    · have hs : isW t n p (wKeys.getD k []) := hk.mp ⟨c5, c13⟩
      refine j_iconst (pc := 16) (v := 1) hK dX0_isKey_16 (by decide) ?_
      refine j_goto (pc := 17) (tgt := 21) hK dX0_isKey_17 (by decide) ?_
      exact j_bret (pc := 21) hK hQ (nle rfl) (nle rfl) dX0_isKey_21 (fun h w => ⟨by first | exact Or.inr rfl | exact Or.inl rfl, _, rfl, by first | exact (b2i_t hs).symm | exact (b2i_f hs).symm, xz_close w r e⟩)
theorem eqW_wd {F : Nat} (hF : frP t n p = F) (w : List Int32) : eqW t F (enP t n p) w ↔ wdP t n p = w := by
  subst hF
  exact wd_iff.symm
theorem c_XplaceIn {W : List (List Int32)} {z : Nat → Nat} {a F q : Nat} (hw : ∀ h, P h → XC Γ L T tm x h) (hc : ∀ h, P h → h a = some (.inl (gA Γ 6, 6, rfA fun i => some (z i)))) (hz : ∀ i, i < 6 → ∃ v, sLs Γ (z i) v (W.getD i [])) (hch : ∀ i, i < 6 → ∀ j, j < (W.getD i []).length → chI ((W.getD i []).getD j 0) = (W.getD i []).getD j 0) (hl : ∀ i, i < 6 → (W.getD i []).length < 160) (hT : TP t n x) (hn : n ≤ 160) (h20 : x.p 20 = nI F) (h19 : x.p 19 = nI q) (hF : F ≤ q) (hq : q ≤ n) : Ct Γ A yX0_placeIn wX0_placeIn 5 0 0 [.ref (L 35), .ref a] P (RI fun r h => plc W t F q r ∧ P h) := by
  refine Ct.of (cc := cX0_placeIn) (nL := 5) (ret := (some .int)) (ls := [some (.ref (L 35)), some (.ref a), none, none, none]) rfl rfl rfl (nle rfl) ?_
  intro K hK hQ
  have loop : ∀ (r i : Nat), i + r = 6 → (∀ j, j < i → ¬ eqW t F q (W.getD j [])) → J Γ A K 2 [some (.ref (L 35)), some (.ref a), some (.int (nI i)), none, none] [] P 0 0 := by
    intro r
    induction r with
    | zero =>
      intro i hi hj
      have : i = 6 := by omega
      subst this
      refine j_iload_n (pc := 2) hK dX0_placeIn_2 rfl ?_
      refine j_aload_n (pc := 3) hK dX0_placeIn_3 rfl ?_
      refine j_alen (pc := 4) (t := 6) (v := nI 6) hK rfl dX0_placeIn_4 (fun h w => ⟨_, hc h w, rfl⟩) ?_
      refine j_icmp_ge (pc := 5) (tgt := 99) hK dX0_placeIn_5 (by decide) (fun c5 => ?_) (fun c5 => absurd (Int32.le_refl _) c5)
      refine j_iconst (pc := 99) (v := (-1)) hK dX0_placeIn_99 (by decide) ?_
      exact j_iret (pc := 100) hK hQ (nle rfl) (nle rfl) dX0_placeIn_100 (fun h w => ⟨_, rfl, Or.inr ⟨rfl, hj⟩, w⟩)
    | succ r ih =>
      intro i hi hj
      have hi6 : i < 6 := by omega
      obtain ⟨v, hS⟩ := hz i hi6
      have hli := hl i hi6
      have hchi := hch i hi6
      generalize hwe : W.getD i [] = w0 at hS hli hchi
      have nxt : ∀ v3 : Int32, ¬ eqW t F q w0 → J Γ A K 93 [some (.ref (L 35)), some (.ref a), some (.int (nI i)), none, none] [] P 0 0 := by
        intro v3 hne
        refine j_iinc2 (pc := 93) (v := 1) hK dX0_placeIn_93 (by decide) rfl (by decide) ?_
        refine j_goto (pc := 96) (tgt := 2) hK dX0_placeIn_96 (by decide) ?_
        rw [nI_1]
        refine ih (i + 1) (by omega) (fun j hj2 => ?_)
        rcases Nat.lt_or_ge j i with z | z
        · exact hj j z
        · have : j = i := by omega
          rw [this, hwe]; exact hne
      have fin : ∀ (b : Prop) [Decidable b] (v4 : Int32), (b ↔ eqW t F q w0) → J Γ A K 87 [some (.ref (L 35)), some (.ref a), some (.int (nI i)), some (.int (b2i b)), some (.int v4)] [] P 0 0 := by
        intro b _ v4 hb
        refine j_iload_n (pc := 87) hK dX0_placeIn_87 rfl ?_
        refine j_if_eq_b (pc := 88) (tgt := 93) hK dX0_placeIn_88 (by decide) (fun c88 => ?_) (fun c88 => ?_)
        · exact J.fg _ (by simp [subL]) (nxt 0 (fun z => c88 (hb.mpr z)))
        · refine j_iload_n (pc := 91) hK dX0_placeIn_91 rfl ?_
          exact j_iret (pc := 92) hK hQ (nle rfl) (nle rfl) dX0_placeIn_92 (fun h w => ⟨_, rfl, Or.inl ⟨i, hi6, rfl, by rw [hwe]; exact hb.mp c88, hj⟩, w⟩)
      have inner : q - F = w0.length → ∀ (r2 k : Nat), k + r2 = w0.length → (∀ j, j < k → t (F + j) = w0.getD j 0) → J Γ A K 35 [some (.ref (L 35)), some (.ref a), some (.int (nI i)), some (.int (b2i True)), some (.int (nI k))] [] P 0 0 := by
        intro hle r2
        induction r2 with
        | zero =>
          intro k hk hm
          have : k = w0.length := by omega
          subst this
          refine j_iload_n (pc := 35) hK dX0_placeIn_35 rfl ?_
          refine j_if_eq_b (pc := 36) (tgt := 87) hK dX0_placeIn_36 (by decide) (fun c36 => absurd trivial c36) (fun c36 => ?_)
          refine j_iload (pc := 39) hK dX0_placeIn_39 rfl ?_
          refine j_aload_n (pc := 41) hK dX0_placeIn_41 rfl ?_
          refine xc_get (pc := 42) (k := 19) (v := nI q) hK hw (by decide) rfl h19 q770 rfl dX0_placeIn_42 ?_
          refine j_aload_n (pc := 45) hK dX0_placeIn_45 rfl ?_
          refine xc_get (pc := 46) (k := 20) (v := nI F) hK hw (by decide) rfl h20 q771 rfl dX0_placeIn_46 ?_
          refine j_isub (pc := 49) hK dX0_placeIn_49 ?_
          rw [pk_sub hF, hle]
          refine j_icmp_ge (pc := 50) (tgt := 87) hK dX0_placeIn_50 (by decide) (fun c50 => ?_) (fun c50 => absurd (Int32.le_refl _) c50)
          exact fin True _ ⟨fun _ => ⟨hle, hm⟩, fun _ => trivial⟩
        | succ r2 ih2 =>
          intro k hk hm
          have hk0 : k < w0.length := by omega
          have step1 : w0.getD k 0 = t (F + k) → J Γ A K 80 [some (.ref (L 35)), some (.ref a), some (.int (nI i)), some (.int (b2i True)), some (.int (nI k))] [.int 1] P 0 0 := by
            intro c72
            refine j_ist3 (pc := 80) hK dX0_placeIn_80 (by decide) rfl ?_
            refine j_iinc4 (pc := 81) (v := 1) hK dX0_placeIn_81 (by decide) rfl (by decide) ?_
            refine j_goto (pc := 84) (tgt := 35) hK dX0_placeIn_84 (by decide) ?_
            rw [nI_1]
            refine ih2 (k + 1) (by omega) (fun j hj2 => ?_)
            rcases Nat.lt_or_ge j k with z | z
            · exact hm j z
            · have : j = k := by omega
              rw [this]; exact c72.symm
          have step0 : ¬ w0.getD k 0 = t (F + k) → J Γ A K 80 [some (.ref (L 35)), some (.ref a), some (.int (nI i)), some (.int (b2i True)), some (.int (nI k))] [.int 0] P 0 0 := by
            intro c72
            have out : ∀ v4 : Int32, ¬ eqW t F q w0 → J Γ A K 35 [some (.ref (L 35)), some (.ref a), some (.int (nI i)), some (.int 0), some (.int v4)] [] P 0 0 := by
              intro v4 hne
              refine j_iload_n (pc := 35) hK dX0_placeIn_35 rfl ?_
              refine j_if_eq (pc := 36) (tgt := 87) hK dX0_placeIn_36 (by decide) (fun c36 => ?_) (fun c36 => absurd (by decide) c36)
              exact fin False _ ⟨fun z => z.elim, fun z => hne z⟩
            refine j_ist3 (pc := 80) hK dX0_placeIn_80 (by decide) rfl ?_
            refine j_iinc4 (pc := 81) (v := 1) hK dX0_placeIn_81 (by decide) rfl (by decide) ?_
            refine j_goto (pc := 84) (tgt := 35) hK dX0_placeIn_84 (by decide) ?_
            exact out _ (fun z => c72 (z.2 k hk0).symm)
          refine j_iload_n (pc := 35) hK dX0_placeIn_35 rfl ?_
          refine j_if_eq_b (pc := 36) (tgt := 87) hK dX0_placeIn_36 (by decide) (fun c36 => absurd trivial c36) (fun c36 => ?_)
          refine j_iload (pc := 39) hK dX0_placeIn_39 rfl ?_
          refine j_aload_n (pc := 41) hK dX0_placeIn_41 rfl ?_
          refine xc_get (pc := 42) (k := 19) (v := nI q) hK hw (by decide) rfl h19 q770 rfl dX0_placeIn_42 ?_
          refine j_aload_n (pc := 45) hK dX0_placeIn_45 rfl ?_
          refine xc_get (pc := 46) (k := 20) (v := nI F) hK hw (by decide) rfl h20 q771 rfl dX0_placeIn_46 ?_
          refine j_isub (pc := 49) hK dX0_placeIn_49 ?_
          rw [pk_sub hF, hle]
          refine j_icmp_ge (pc := 50) (tgt := 87) hK dX0_placeIn_50 (by decide) (fun c50 => absurd c50 (nI_ge hk0 (by omega))) (fun c50 => ?_)
          refine j_aload_n (pc := 53) hK dX0_placeIn_53 rfl ?_
          refine j_iload_n (pc := 54) hK dX0_placeIn_54 rfl ?_
          refine j_aald (pc := 55) (t := 6) (v := some (z i)) hK rfl rfl dX0_placeIn_55 (fun h w => ⟨_, _, hc h w, vp_in_nI hi6 (by decide), by rw [nI_clamp (by omega)]⟩) ?_
          refine j_iload (pc := 56) hK dX0_placeIn_56 rfl ?_
          refine j_callL (pc := 58) hK hQ (c_JcharAt hK.g hS hk0) cal_J3_charAt hS q426 dX0_placeIn_58 rfl rfl (nle rfl) (nle rfl) (nle rfl) (nle rfl) (kr_i fun r58 => ?_) kx_i
          refine J.pre fun e58 => ?_
          subst e58
          refine j_aload_n (pc := 61) hK dX0_placeIn_61 rfl ?_
          refine j_aload_n (pc := 62) hK dX0_placeIn_62 rfl ?_
          refine xc_get (pc := 63) (k := 20) (v := nI F) hK hw (by decide) rfl h20 q771 rfl dX0_placeIn_63 ?_
          refine j_iload (pc := 66) hK dX0_placeIn_66 rfl ?_
          refine j_iadd (pc := 68) hK dX0_placeIn_68 ?_
          rw [nI_add, hchi k hk0]
          refine j_callV (pc := 69) hK hQ (c_XbyteAt hw hT hn (by omega)) cal_X0_byteAt (xc_isC hw) q399 dX0_placeIn_69 rfl rfl (nle rfl) (nle rfl) (nle rfl) (nle rfl) (kr_i fun r69 => ?_) kx_i
          refine J.pre fun e69 => ?_
          subst e69
          rw [show tb t n (F + k) = t (F + k) from if_pos (by omega)]
          refine j_icmp_ne (pc := 72) (tgt := 79) hK dX0_placeIn_72 (by decide) (fun c72 => ?_) (fun c72 => ?_)
          · refine j_iconst (pc := 79) (v := 0) hK dX0_placeIn_79 (by decide) ?_
            first
              | exact step1 c72
              | exact step0 c72
          · refine j_iconst (pc := 75) (v := 1) hK dX0_placeIn_75 (by decide) ?_
            refine j_goto (pc := 76) (tgt := 80) hK dX0_placeIn_76 (by decide) ?_
            first
              | exact step1 c72
              | exact step0 c72
      have go1 : nI w0.length = nI (q - F) → J Γ A K 31 [some (.ref (L 35)), some (.ref a), some (.int (nI i)), none, none] [.int 1] P 0 0 := by
        intro c23
        refine j_ist3 (pc := 31) hK dX0_placeIn_31 (by decide) rfl ?_
        refine j_iconst (pc := 32) (v := 0) hK dX0_placeIn_32 (by decide) ?_
        refine j_ist4 (pc := 33) hK dX0_placeIn_33 (by decide) rfl ?_
        exact inner ((nI_eq (by omega) (by omega)).mp c23).symm w0.length 0 (by omega) (fun j hj => by omega)
      have go0 : ¬ nI w0.length = nI (q - F) → J Γ A K 31 [some (.ref (L 35)), some (.ref a), some (.int (nI i)), none, none] [.int 0] P 0 0 := by
        intro c23
        refine j_ist3 (pc := 31) hK dX0_placeIn_31 (by decide) rfl ?_
        refine j_iconst (pc := 32) (v := 0) hK dX0_placeIn_32 (by decide) ?_
        refine j_ist4 (pc := 33) hK dX0_placeIn_33 (by decide) rfl ?_
        refine j_iload_n (pc := 35) hK dX0_placeIn_35 rfl ?_
        refine j_if_eq (pc := 36) (tgt := 87) hK dX0_placeIn_36 (by decide) (fun c36 => ?_) (fun c36 => absurd (by decide) c36)
        exact fin False _ ⟨fun z => z.elim, fun z => c23 (by rw [z.1])⟩
      refine j_iload_n (pc := 2) hK dX0_placeIn_2 rfl ?_
      refine j_aload_n (pc := 3) hK dX0_placeIn_3 rfl ?_
      refine j_alen (pc := 4) (t := 6) (v := nI 6) hK rfl dX0_placeIn_4 (fun h w => ⟨_, hc h w, rfl⟩) ?_
      refine j_icmp_ge (pc := 5) (tgt := 99) hK dX0_placeIn_5 (by decide) (fun c5 => absurd c5 (by rw [show (6 : Nat) = 6 from rfl]; exact nI_ge hi6 (by decide))) (fun c5 => ?_)
      refine j_aload_n (pc := 8) hK dX0_placeIn_8 rfl ?_
      refine j_iload_n (pc := 9) hK dX0_placeIn_9 rfl ?_
      refine j_aald (pc := 10) (t := 6) (v := some (z i)) hK rfl rfl dX0_placeIn_10 (fun h w => ⟨_, _, hc h w, vp_in_nI hi6 (by decide), by rw [nI_clamp (by omega)]⟩) ?_
      refine j_callL (pc := 11) hK hQ (c_Jlength hK.g hS) cal_J3_length hS q416 dX0_placeIn_11 rfl rfl (nle rfl) (nle rfl) (nle rfl) (nle rfl) (kr_i fun r11 => ?_) kx_i
      refine J.pre fun e11 => ?_
      subst e11
      refine j_aload_n (pc := 14) hK dX0_placeIn_14 rfl ?_
      refine xc_get (pc := 15) (k := 19) (v := nI q) hK hw (by decide) rfl h19 q770 rfl dX0_placeIn_15 ?_
      refine j_aload_n (pc := 18) hK dX0_placeIn_18 rfl ?_
      refine xc_get (pc := 19) (k := 20) (v := nI F) hK hw (by decide) rfl h20 q771 rfl dX0_placeIn_19 ?_
      refine j_isub (pc := 22) hK dX0_placeIn_22 ?_
      rw [pk_sub hF]
      refine j_icmp_ne (pc := 23) (tgt := 30) hK dX0_placeIn_23 (by decide) (fun c23 => ?_) (fun c23 => ?_)
      · refine j_iconst (pc := 30) (v := 0) hK dX0_placeIn_30 (by decide) ?_
        first
          | exact go1 c23
          | exact go0 c23
      · refine j_iconst (pc := 26) (v := 1) hK dX0_placeIn_26 (by decide) ?_
        refine j_goto (pc := 27) (tgt := 31) hK dX0_placeIn_27 (by decide) ?_
        first
          | exact go1 c23
          | exact go0 c23
  refine j_iconst (pc := 0) (v := 0) hK dX0_placeIn_0 (by decide) ?_
  refine j_ist2 (pc := 1) hK dX0_placeIn_1 (by decide) rfl ?_
  exact loop 6 0 rfl (fun j hj => by omega)
theorem ch_keys : ∀ i, i < 6 → ∀ j, j < (wKeys.getD i []).length → chI ((wKeys.getD i []).getD j 0) = (wKeys.getD i []).getD j 0 := by decide +kernel
theorem ch_names : ∀ i, i < 6 → ∀ j, j < (wNames.getD i []).length → chI ((wNames.getD i []).getD j 0) = (wNames.getD i []).getD j 0 := by decide +kernel
theorem nm_m1 (h : nmP t n p - 1 = -1) : nmP t n p = 0 := by
  rcases nmP_c (t := t) (n := n) (p := p) with z | ⟨_, z, _, z2⟩
  · exact z
  · obtain ⟨k, hk, e⟩ := nI_of2 (x := nmP t n p) (M := 6) (n := 6) (by decide) (Int32.not_lt.mpr (Int32.le_of_lt z)) z2
    rw [e] at h z ⊢
    have : 0 < k := Nat.pos_of_ne_zero (fun q => by rw [q] at z; exact absurd z (by decide))
    obtain ⟨j, rfl⟩ : ∃ j, k = j + 1 := ⟨k - 1, by omega⟩
    rw [nI_pred] at h
    exact absurd h (nI_m1 (by omega))
theorem lt_ndg {c : Int32} (h : 97 ≤ c ∧ c ≤ 122) (z : 48 ≤ c ∧ c ≤ 57) : False := absurd (Int32.le_trans h.1 z.2) (by decide)
theorem plc_ky {F : Nat} {r : Int32} (hF : frP t n p = F) (hs : soP t n p = 2) (h : plc wKeys t F (enP t n p) r) : r = kyI t n p := by
  rcases h with ⟨i, hi, e, h1, h2⟩ | ⟨e, h1⟩
  · rw [e, ky_key hi ⟨hs, (eqW_wd hF _).mp h1⟩]
  · rcases ky_rng (t := t) (n := n) (p := p) with z | ⟨k, hk, z⟩
    · rw [e, z]
    · exact absurd ((eqW_wd hF _).mpr (ky_inv hk z).2) (h1 k hk)
theorem plc_nm {F : Nat} {r : Int32} (hF : frP t n p = F) (hs : soP t n p = 2) (h : plc wNames t F (enP t n p) r) : r = nmP t n p - 1 := by
  rcases h with ⟨i, hi, e, h1, h2⟩ | ⟨e, h1⟩
  · have hw := (eqW_wd hF _).mp h1
    have e2 : ∀ w : List Int32, isW t n p w ↔ wNames.getD i [] = w := fun w => ⟨fun z => hw.symm.trans z.2, fun z => ⟨hs, hw.trans z⟩⟩
    rw [e]
    unfold nmP
    simp only [e2]
    clear h1 h2 hw e2
    rcases n6 hi with rfl | rfl | rfl | rfl | rfl | rfl <;> decide
  · have e2 : ∀ i, i < 6 → ¬ isW t n p (wNames.getD i []) := fun i hi z => h1 i hi ((eqW_wd hF _).mpr z.2)
    have : nmP t n p = 0 := by
      unfold nmP
      rw [if_neg (show ¬ isW t n p wFar from e2 0 (by decide)), if_neg (show ¬ isW t n p wWind from e2 1 (by decide)), if_neg (show ¬ isW t n p wLate from e2 2 (by decide)), if_neg (show ¬ isW t n p wHid from e2 3 (by decide)), if_neg (show ¬ isW t n p wBoat from e2 4 (by decide)), if_neg (show ¬ isW t n p wMinute from e2 5 (by decide))]
    rw [e, this]
    decide
def NX (Γ : Gam) (L : Nat → Nat) (f : Nat → Int32) (g : Nat → Int32 → Int32) (T : TX) (t : Nat → Int32) (n p o : Nat) (R : PH → Prop) : Outcome → PH → Prop := RT (RV fun h => gd t n p ∧ XQ Γ L f g T (TK t n p o) R h) (fun x h => x = L 10 ∧ ¬ gd t n p ∧ XQ Γ L f g T (BG t n p) R h)
def AT (t : Nat → Int32) (n F o : Nat) (x : XD) : Prop := TB t n F o x ∧ x.p 20 = nI F
theorem c_Xword (hR : StR R) (hn : n ≤ 160) {F : Nat} (hF : frP t n p = F) (hFn : F < n) (hnd : ¬ isDg (t F)) (hlt : isLt (t F)) : Ct Γ A yX0_word wX0_word 6 0 0 [.ref (L 35)] (XQ Γ L f g T (AT t n F o) R) (NX Γ L f g T t n p o R) := by
  refine Ct.of (cc := cX0_word) (nL := 2) (ret := none) (ls := [some (.ref (L 35)), none]) rfl rfl rfl (nle rfl) ?_
  intro K hK hQ
  have hFn' : ¬ F = n := by omega
  have hso : soP t n p = 2 := by unfold soP; rw [hF, if_neg hFn', if_neg hnd, if_pos hlt]
  have seg : ∀ (q : Nat) (x : XD), F ≤ q → q ≤ n → XR f g x → TB t n q o x → x.p 20 = nI F → q = enP t n p → J Γ A K 27 [some (.ref (L 35)), none] [] (XZ Γ L T (f 17).toNatClampNeg R x) 0 0 := by
    intro q x h1 h2 r hT h20 hq
    refine J.inv (fun h w => w.1.2.2) fun hXK => ?_
    by_cases hk : kyI t n p = -1
    · skip
      refine j_aload_n (pc := 27) hK dX0_word_27 rfl ?_
      refine j_aload_n (pc := 28) hK dX0_word_28 rfl ?_
      refine xc_getR (pc := 29) (k := 14) hK (fun _ w => w.1) (by decide) rfl q765 rfl dX0_word_29 ?_
      refine j_callV (pc := 32) hK hQ (c_XplaceIn (fun _ w => w.1) (fun h w => w.1.1.at xcs_k) hXK.1 ch_keys (by decide) hT.tp hn h20 hT.2.2.1 h1 h2) cal_X0_placeIn (xc_isC (fun _ w => w.1)) q412 dX0_word_32 rfl rfl (nle rfl) (nle rfl) (nle rfl) (nle rfl) (kr_i fun r32 => ?_) kx_i
      refine J.pre fun e32 => ?_
      have ek : r32 = kyI t n p := plc_ky hF hso (by rw [← hq]; exact e32)
      subst ek
      refine j_ist1 (pc := 35) hK dX0_word_35 (by decide) rfl ?_
      refine j_aload_n (pc := 36) hK dX0_word_36 rfl ?_
      refine j_iload_n (pc := 37) hK dX0_word_37 rfl ?_
      refine j_iconst (pc := 38) (v := (-1)) hK dX0_word_38 (by decide) ?_
      refine j_icmp_ne (pc := 39) (tgt := 46) hK dX0_word_39 (by decide) (fun cA => absurd hk cA) (fun cA => ?_)
      refine j_iconst (pc := 42) (v := 2) hK dX0_word_42 (by decide) ?_
      refine j_goto (pc := 43) (tgt := 47) hK dX0_word_43 (by decide) ?_
      refine xz_put (pc := 47) (k := 21) hR hK (by decide) rfl q772 rfl rfl rfl rfl dX0_word_47 ?_
      refine j_aload_n (pc := 50) hK dX0_word_50 rfl ?_
      refine j_iload_n (pc := 51) hK dX0_word_51 rfl ?_
      refine j_iconst (pc := 52) (v := (-1)) hK dX0_word_52 (by decide) ?_
      refine j_icmp_ne (pc := 53) (tgt := 67) hK dX0_word_53 (by decide) (fun cB => absurd hk cB) (fun cB => ?_)
      refine j_aload_n (pc := 56) hK dX0_word_56 rfl ?_
      refine j_aload_n (pc := 57) hK dX0_word_57 rfl ?_
      refine xc_getR (pc := 58) (k := 15) hK (fun _ w => w.1) (by decide) rfl q766 rfl dX0_word_58 ?_
      refine j_callV (pc := 61) hK hQ (c_XplaceIn (fun _ w => w.1) (fun h w => w.1.1.at xcs_n) hXK.2 ch_names (by decide) ⟨hT.1, hT.2.1⟩ hn h20 hT.2.2.1 h1 h2) cal_X0_placeIn (xc_isC (fun _ w => w.1)) q412 dX0_word_61 rfl rfl (nle rfl) (nle rfl) (nle rfl) (nle rfl) (kr_i fun r61 => ?_) kx_i
      refine J.pre fun e61 => ?_
      have en : r61 = nmP t n p - 1 := plc_nm hF hso (by rw [← hq]; exact e61)
      subst en
      refine j_goto (pc := 64) (tgt := 68) hK dX0_word_64 (by decide) ?_
      refine xz_put (pc := 68) (k := 22) hR hK (by decide) rfl q773 rfl rfl rfl rfl dX0_word_68 ?_
      refine j_aload_n (pc := 71) hK dX0_word_71 rfl ?_
      refine xc_get (pc := 72) (k := 22) hK (fun _ w => w.1) (by decide) rfl rfl q773 rfl dX0_word_72 ?_
      refine j_iconst (pc := 75) (v := (-1)) hK dX0_word_75 (by decide) ?_
      refine j_icmp_ne (pc := 76) (tgt := 84) hK dX0_word_76 (by decide) (fun c76 => ?_) (fun c76 => ?_)
      · have h0 : 0 < nmP t n p := by
          rcases nmP_c (t := t) (n := n) (p := p) with z | z
          · exact absurd (show nmP t n p - 1 = -1 by rw [z]; decide) c76
          · exact z.2.1
        exact j_vret (pc := 84) hK hQ (nle rfl) (nle rfl) dX0_word_84 (fun h w => Or.inl ⟨rfl, Or.inr (Or.inr (Or.inr ⟨hso, Or.inr h0⟩)), xz_close w ((r.pH (k := 21) rfl).pH (k := 22) rfl) ⟨by rw [← hq]; exact hT, by rw [hF]; exact h20, Or.inr (Or.inr (Or.inr (Or.inl ⟨hso, hk, h0, rfl, rfl⟩)))⟩⟩)
      · have hb : ¬ gd t n p := fun z => by
          rcases z with z | z | z | ⟨_, z | z⟩
          · rw [hso] at z; exact absurd z (by decide)
          · rw [hso] at z; exact absurd z (by decide)
          · rw [hso] at z; exact absurd z (by decide)
          · rw [hk] at z; exact absurd z (by decide)
          · rw [nm_m1 c76] at z; exact absurd z (by decide)
        refine j_aload_n (pc := 79) hK dX0_word_79 rfl ?_
        refine xc_getR (pc := 80) (k := 10) hK (fun _ w => w.1) (by decide) rfl q760 rfl dX0_word_80 ?_
        refine j_athrow (pc := 83) hK dX0_word_83 ?_
        exact jt_leave hK hQ (by decide) (nle rfl) (nle rfl) (fun h w => Or.inr ⟨_, rfl, rfl, hb, xz_close w ((r.pH (k := 21) rfl).pH (k := 22) rfl) (by show _ = nI (frP t n p); rw [hF]; exact h20)⟩)
    · have hk0 : 0 ≤ kyI t n p := by
        rcases ky_rng (t := t) (n := n) (p := p) with z | ⟨k, hk2, z⟩
        · exact absurd z hk
        · rw [z]; exact nI_pos' (by omega)
      refine j_aload_n (pc := 27) hK dX0_word_27 rfl ?_
      refine j_aload_n (pc := 28) hK dX0_word_28 rfl ?_
      refine xc_getR (pc := 29) (k := 14) hK (fun _ w => w.1) (by decide) rfl q765 rfl dX0_word_29 ?_
      refine j_callV (pc := 32) hK hQ (c_XplaceIn (fun _ w => w.1) (fun h w => w.1.1.at xcs_k) hXK.1 ch_keys (by decide) hT.tp hn h20 hT.2.2.1 h1 h2) cal_X0_placeIn (xc_isC (fun _ w => w.1)) q412 dX0_word_32 rfl rfl (nle rfl) (nle rfl) (nle rfl) (nle rfl) (kr_i fun r32 => ?_) kx_i
      refine J.pre fun e32 => ?_
      have ek : r32 = kyI t n p := plc_ky hF hso (by rw [← hq]; exact e32)
      subst ek
      refine j_ist1 (pc := 35) hK dX0_word_35 (by decide) rfl ?_
      refine j_aload_n (pc := 36) hK dX0_word_36 rfl ?_
      refine j_iload_n (pc := 37) hK dX0_word_37 rfl ?_
      refine j_iconst (pc := 38) (v := (-1)) hK dX0_word_38 (by decide) ?_
      refine j_icmp_ne (pc := 39) (tgt := 46) hK dX0_word_39 (by decide) (fun cA => ?_) (fun cA => absurd cA hk)
      refine j_iconst (pc := 46) (v := 1) hK dX0_word_46 (by decide) ?_
      refine xz_put (pc := 47) (k := 21) hR hK (by decide) rfl q772 rfl rfl rfl rfl dX0_word_47 ?_
      refine j_aload_n (pc := 50) hK dX0_word_50 rfl ?_
      refine j_iload_n (pc := 51) hK dX0_word_51 rfl ?_
      refine j_iconst (pc := 52) (v := (-1)) hK dX0_word_52 (by decide) ?_
      refine j_icmp_ne (pc := 53) (tgt := 67) hK dX0_word_53 (by decide) (fun cB => ?_) (fun cB => absurd cB hk)
      refine j_iload_n (pc := 67) hK dX0_word_67 rfl ?_
      refine xz_put (pc := 68) (k := 22) hR hK (by decide) rfl q773 rfl rfl rfl rfl dX0_word_68 ?_
      refine j_aload_n (pc := 71) hK dX0_word_71 rfl ?_
      refine xc_get (pc := 72) (k := 22) hK (fun _ w => w.1) (by decide) rfl rfl q773 rfl dX0_word_72 ?_
      refine j_iconst (pc := 75) (v := (-1)) hK dX0_word_75 (by decide) ?_
      refine j_icmp_ne (pc := 76) (tgt := 84) hK dX0_word_76 (by decide) (fun c76 => ?_) (fun c76 => absurd c76 hk)
      exact j_vret (pc := 84) hK hQ (nle rfl) (nle rfl) dX0_word_84 (fun h w => Or.inl ⟨rfl, Or.inr (Or.inr (Or.inr ⟨hso, Or.inl hk0⟩)), xz_close w ((r.pH (k := 21) rfl).pH (k := 22) rfl) ⟨by rw [← hq]; exact hT, by rw [hF]; exact h20, Or.inr (Or.inr (Or.inl ⟨hso, hk0, rfl, rfl⟩))⟩⟩)
  have loop : ∀ (r q : Nat) (x : XD), q + r = n → F ≤ q → XR f g x → TB t n q o x → x.p 20 = nI F → runL t r q = enP t n p → J Γ A K 0 [some (.ref (L 35)), none] [] (XZ Γ L T (f 17).toNatClampNeg R x) 0 0 := by
    intro r
    induction r with
    | zero =>
      intro q x hq h1 r hT h20 hr
      refine j_aload_n (pc := 0) hK dX0_word_0 rfl ?_
      refine j_aload_n (pc := 1) hK dX0_word_1 rfl ?_
      refine xc_get (pc := 2) (k := 19) (v := nI q) hK (fun _ w => w.1) (by decide) rfl hT.2.2.1 q770 rfl dX0_word_2 ?_
      refine j_callV (pc := 5) hK hQ (c_XbyteAt (fun _ w => w.1) hT.tp hn (by omega)) cal_X0_byteAt (xc_isC (fun _ w => w.1)) q399 dX0_word_5 rfl rfl (nle rfl) (nle rfl) (nle rfl) (nle rfl) (kr_i fun r5 => ?_) kx_i
      refine J.pre fun e5 => ?_
      subst e5
      rw [show tb t n q = -1 from if_neg (by omega)]
      refine j_callS (pc := 8) hK hQ (c_XisLetter _) cal_X0_isLetter q403 dX0_word_8 rfl rfl (nle rfl) (nle rfl) (nle rfl) (nle rfl) (kr_i fun r8 => ?_) kx_i
      refine J.pre fun e8 => ?_
      subst e8
      refine j_if_eq_b (pc := 11) (tgt := 27) hK dX0_word_11 (by decide) (fun c11 => ?_) (fun c11 => absurd c11 (by decide))
      exact seg q x h1 (by omega) r hT h20 hr
    | succ m ih =>
      intro q x hq h1 r hT h20 hr
      have hr' : (if isLt (t q) then runL t m (q + 1) else q) = enP t n p := hr
      refine j_aload_n (pc := 0) hK dX0_word_0 rfl ?_
      refine j_aload_n (pc := 1) hK dX0_word_1 rfl ?_
      refine xc_get (pc := 2) (k := 19) (v := nI q) hK (fun _ w => w.1) (by decide) rfl hT.2.2.1 q770 rfl dX0_word_2 ?_
      refine j_callV (pc := 5) hK hQ (c_XbyteAt (fun _ w => w.1) hT.tp hn (by omega)) cal_X0_byteAt (xc_isC (fun _ w => w.1)) q399 dX0_word_5 rfl rfl (nle rfl) (nle rfl) (nle rfl) (nle rfl) (kr_i fun r5 => ?_) kx_i
      refine J.pre fun e5 => ?_
      subst e5
      rw [show tb t n q = t q from if_pos (by omega)]
      refine j_callS (pc := 8) hK hQ (c_XisLetter _) cal_X0_isLetter q403 dX0_word_8 rfl rfl (nle rfl) (nle rfl) (nle rfl) (nle rfl) (kr_i fun r8 => ?_) kx_i
      refine J.pre fun e8 => ?_
      subst e8
      refine j_if_eq_b (pc := 11) (tgt := 27) hK dX0_word_11 (by decide) (fun c11 => ?_) (fun c11 => ?_)
      · exact seg q x h1 (by omega) r hT h20 (by rw [if_neg c11] at hr'; exact hr')
      · refine j_aload_n (pc := 14) hK dX0_word_14 rfl ?_
        refine j_dup (pc := 15) hK dX0_word_15 rfl ?_
        refine xc_get (pc := 16) (k := 19) (v := nI q) hK (fun _ w => w.1) (by decide) rfl hT.2.2.1 q770 rfl dX0_word_16 ?_
        refine j_iconst (pc := 19) (v := 1) hK dX0_word_19 (by decide) ?_
        refine j_iadd (pc := 20) hK dX0_word_20 ?_
        refine xz_put (pc := 21) (k := 19) hR hK (by decide) rfl q770 rfl rfl rfl rfl dX0_word_21 ?_
        refine j_goto (pc := 24) (tgt := 0) hK dX0_word_24 (by decide) ?_
        rw [if_pos c11] at hr'
        refine ih (q + 1) _ (by omega) (by omega) (r.pH (k := 19) rfl) ⟨hT.1, hT.2.1, nI_1 q, hT.2.2.2⟩ h20 hr'
  refine xz_open fun x r e => ?_
  exact loop (n - F) F x (by omega) (Nat.le_refl _) r e.1 e.2 (by unfold enP; rw [hF, if_neg hFn', if_neg hnd, if_pos hlt])
theorem c_Xdigits (hR : StR R) (hn : n ≤ 160) {F : Nat} (hF : frP t n p = F) (hFn : F < n) (hdg : isDg (t F)) : Ct Γ A yX0_digits wX0_digits 3 0 0 [.ref (L 35)] (XQ Γ L f g T (AT t n F o) R) (NX Γ L f g T t n p o R) := by
  refine Ct.of (cc := cX0_digits) (nL := 1) (ret := none) (ls := [some (.ref (L 35))]) rfl rfl rfl (nle rfl) ?_
  intro K hK hQ
  have hFn' : ¬ F = n := by omega
  have hso : soP t n p = if enP t n p - F ≤ 4 then 1 else 4 := by unfold soP; rw [hF, if_neg hFn', if_pos hdg]
  have hva : vaP t n p = dgV t F (enP t n p - F) := by unfold vaP; rw [hF, if_pos hdg]
  have seg : ∀ (q : Nat) (x : XD), F ≤ q → q ≤ n → XR f g x → TB t n q o x → x.p 20 = nI F → x.p 22 = dgV t F (q - F) → q = enP t n p → J Γ A K 75 [some (.ref (L 35))] [] (XZ Γ L T (f 17).toNatClampNeg R x) 0 0 := by
    intro q x h1 h2 r hT h20 h22 hq
    rw [← hq] at hso hva
    refine j_aload_n (pc := 75) hK dX0_digits_75 rfl ?_
    refine j_iconst (pc := 76) (v := 3) hK dX0_digits_76 (by decide) ?_
    refine xz_put (pc := 77) (k := 21) hR hK (by decide) rfl q772 rfl rfl rfl rfl dX0_digits_77 ?_
    refine j_aload_n (pc := 80) hK dX0_digits_80 rfl ?_
    refine xc_get (pc := 81) (k := 19) (v := nI q) hK (fun _ w => w.1) (by decide) rfl hT.2.2.1 q770 rfl dX0_digits_81 ?_
    refine j_aload_n (pc := 84) hK dX0_digits_84 rfl ?_
    refine xc_get (pc := 85) (k := 20) (v := nI F) hK (fun _ w => w.1) (by decide) rfl h20 q771 rfl dX0_digits_85 ?_
    refine j_isub (pc := 88) hK dX0_digits_88 ?_
    rw [pk_sub h1]
    refine j_iconst (pc := 89) (v := 4) hK dX0_digits_89 (by decide) ?_
    refine j_icmp_le (pc := 90) (tgt := 98) hK dX0_digits_90 (by decide) (fun c90 => ?_) (fun c90 => ?_)
    · have h4 : q - F ≤ 4 := (nI_leI (by omega) (by decide)).mp (show nI (q - F) ≤ nI 4 from c90)
      rw [if_pos h4] at hso
      exact j_vret (pc := 98) hK hQ (nle rfl) (nle rfl) dX0_digits_98 (fun h w => Or.inl ⟨rfl, Or.inr (Or.inl hso), xz_close w (r.pH (k := 21) rfl) ⟨by rw [← hq]; exact hT, by rw [hF]; exact h20, Or.inr (Or.inl ⟨hso, rfl, h22.trans hva.symm⟩)⟩⟩)
    · have h4 : ¬ q - F ≤ 4 := fun z => c90 (by rw [show (4 : Int32) = nI 4 by decide]; exact nI_le z (by omega))
      rw [if_neg h4] at hso
      have hb : ¬ gd t n p := fun z => by
        rcases z with z | z | z | ⟨z, _⟩ <;> (rw [hso] at z; exact absurd z (by decide))
      refine j_aload_n (pc := 93) hK dX0_digits_93 rfl ?_
      refine xc_getR (pc := 94) (k := 10) hK (fun _ w => w.1) (by decide) rfl q760 rfl dX0_digits_94 ?_
      refine j_athrow (pc := 97) hK dX0_digits_97 ?_
      exact jt_leave hK hQ (by decide) (nle rfl) (nle rfl) (fun h w => Or.inr ⟨_, rfl, rfl, hb, xz_close w (r.pH (k := 21) rfl) (by show _ = nI (frP t n p); rw [hF]; exact h20)⟩)
  have loop : ∀ (r q : Nat) (x : XD), q + r = n → F ≤ q → XR f g x → TB t n q o x → x.p 20 = nI F → x.p 22 = dgV t F (q - F) → runD t r q = enP t n p → J Γ A K 5 [some (.ref (L 35))] [] (XZ Γ L T (f 17).toNatClampNeg R x) 0 0 := by
    intro r
    induction r with
    | zero =>
      intro q x hq h1 r hT h20 h22 hr
      refine j_aload_n (pc := 5) hK dX0_digits_5 rfl ?_
      refine j_aload_n (pc := 6) hK dX0_digits_6 rfl ?_
      refine xc_get (pc := 7) (k := 19) (v := nI q) hK (fun _ w => w.1) (by decide) rfl hT.2.2.1 q770 rfl dX0_digits_7 ?_
      refine j_callV (pc := 10) hK hQ (c_XbyteAt (fun _ w => w.1) hT.tp hn (by omega)) cal_X0_byteAt (xc_isC (fun _ w => w.1)) q399 dX0_digits_10 rfl rfl (nle rfl) (nle rfl) (nle rfl) (nle rfl) (kr_i fun r10 => ?_) kx_i
      refine J.pre fun e10 => ?_
      subst e10
      rw [show tb t n q = -1 from if_neg (by omega)]
      refine j_callS (pc := 13) hK hQ (c_XisDigit _) cal_X0_isDigit q464 dX0_digits_13 rfl rfl (nle rfl) (nle rfl) (nle rfl) (nle rfl) (kr_i fun r13 => ?_) kx_i
      refine J.pre fun e13 => ?_
      subst e13
      refine j_if_eq_b (pc := 16) (tgt := 75) hK dX0_digits_16 (by decide) (fun c16 => ?_) (fun c16 => absurd c16 (by decide))
      exact seg q x h1 (by omega) r hT h20 h22 hr
    | succ m ih =>
      intro q x hq h1 r hT h20 h22 hr
      have hr' : (if isDg (t q) then runD t m (q + 1) else q) = enP t n p := hr
      have fin : isDg (t q) → ∀ v : Int32, v = (if q - F < 4 then 10 * dgV t F (q - F) + t q - 48 else dgV t F (q - F)) → J Γ A K 59 [some (.ref (L 35))] [.int v, .ref (L 35)] (XZ Γ L T (f 17).toNatClampNeg R x) 0 0 := by
        intro c16 v hv
        have dstep : dgV t F (q + 1 - F) = if q - F < 4 then 10 * dgV t F (q - F) + t q - 48 else dgV t F (q - F) := by
          rw [show q + 1 - F = (q - F) + 1 by omega]
          show (if q - F < 4 then 10 * dgV t F (q - F) + t (F + (q - F)) - 48 else dgV t F (q - F)) = _
          rw [show F + (q - F) = q by omega]
        rw [if_pos c16] at hr'
        refine xz_put (pc := 59) (k := 22) hR hK (by decide) rfl q773 rfl rfl rfl rfl dX0_digits_59 ?_
        refine j_aload_n (pc := 62) hK dX0_digits_62 rfl ?_
        refine j_dup (pc := 63) hK dX0_digits_63 rfl ?_
        refine xc_get (pc := 64) (k := 19) (v := nI q) hK (fun _ w => w.1) (by decide) rfl hT.2.2.1 q770 rfl dX0_digits_64 ?_
        refine j_iconst (pc := 67) (v := 1) hK dX0_digits_67 (by decide) ?_
        refine j_iadd (pc := 68) hK dX0_digits_68 ?_
        refine xz_put (pc := 69) (k := 19) hR hK (by decide) rfl q770 rfl rfl rfl rfl dX0_digits_69 ?_
        refine j_goto (pc := 72) (tgt := 5) hK dX0_digits_72 (by decide) ?_
        exact ih (q + 1) _ (by omega) (by omega) ((r.pH (k := 22) rfl).pH (k := 19) rfl) ⟨hT.1, hT.2.1, nI_1 q, hT.2.2.2⟩ h20 (hv.trans dstep.symm) hr'
      refine j_aload_n (pc := 5) hK dX0_digits_5 rfl ?_
      refine j_aload_n (pc := 6) hK dX0_digits_6 rfl ?_
      refine xc_get (pc := 7) (k := 19) (v := nI q) hK (fun _ w => w.1) (by decide) rfl hT.2.2.1 q770 rfl dX0_digits_7 ?_
      refine j_callV (pc := 10) hK hQ (c_XbyteAt (fun _ w => w.1) hT.tp hn (by omega)) cal_X0_byteAt (xc_isC (fun _ w => w.1)) q399 dX0_digits_10 rfl rfl (nle rfl) (nle rfl) (nle rfl) (nle rfl) (kr_i fun r10 => ?_) kx_i
      refine J.pre fun e10 => ?_
      subst e10
      rw [show tb t n q = t q from if_pos (by omega)]
      refine j_callS (pc := 13) hK hQ (c_XisDigit _) cal_X0_isDigit q464 dX0_digits_13 rfl rfl (nle rfl) (nle rfl) (nle rfl) (nle rfl) (kr_i fun r13 => ?_) kx_i
      refine J.pre fun e13 => ?_
      subst e13
      refine j_if_eq_b (pc := 16) (tgt := 75) hK dX0_digits_16 (by decide) (fun c16 => ?_) (fun c16 => ?_)
      · exact seg q x h1 (by omega) r hT h20 h22 (by rw [if_neg c16] at hr'; exact hr')
      · refine j_aload_n (pc := 19) hK dX0_digits_19 rfl ?_
        refine j_aload_n (pc := 20) hK dX0_digits_20 rfl ?_
        refine xc_get (pc := 21) (k := 19) (v := nI q) hK (fun _ w => w.1) (by decide) rfl hT.2.2.1 q770 rfl dX0_digits_21 ?_
        refine j_aload_n (pc := 24) hK dX0_digits_24 rfl ?_
        refine xc_get (pc := 25) (k := 20) (v := nI F) hK (fun _ w => w.1) (by decide) rfl h20 q771 rfl dX0_digits_25 ?_
        refine j_isub (pc := 28) hK dX0_digits_28 ?_
        rw [pk_sub h1]
        refine j_iconst (pc := 29) (v := 4) hK dX0_digits_29 (by decide) ?_
        refine j_icmp_ge (pc := 30) (tgt := 55) hK dX0_digits_30 (by decide) (fun c30 => ?_) (fun c30 => ?_)
        · refine j_aload_n (pc := 55) hK dX0_digits_55 rfl ?_
          refine xc_get (pc := 56) (k := 22) (v := dgV t F (q - F)) hK (fun _ w => w.1) (by decide) rfl h22 q773 rfl dX0_digits_56 ?_
          first | exact fin c16 _ (if_neg (fun z => absurd c30 (nI_ge z (by decide)))).symm | exact fin c16 _ (if_pos ((nI_ltI (by omega) (by decide)).mp (Int32.not_le.mp c30))).symm
        · refine j_bipush (pc := 33) (v := 10) hK dX0_digits_33 (by decide) ?_
          refine j_aload_n (pc := 35) hK dX0_digits_35 rfl ?_
          refine xc_get (pc := 36) (k := 22) (v := dgV t F (q - F)) hK (fun _ w => w.1) (by decide) rfl h22 q773 rfl dX0_digits_36 ?_
          refine j_imul (pc := 39) hK dX0_digits_39 ?_
          refine j_aload_n (pc := 40) hK dX0_digits_40 rfl ?_
          refine j_aload_n (pc := 41) hK dX0_digits_41 rfl ?_
          refine xc_get (pc := 42) (k := 19) (v := nI q) hK (fun _ w => w.1) (by decide) rfl hT.2.2.1 q770 rfl dX0_digits_42 ?_
          refine j_callV (pc := 45) hK hQ (c_XbyteAt (fun _ w => w.1) hT.tp hn (by omega)) cal_X0_byteAt (xc_isC (fun _ w => w.1)) q399 dX0_digits_45 rfl rfl (nle rfl) (nle rfl) (nle rfl) (nle rfl) (kr_i fun r45 => ?_) kx_i
          refine J.pre fun e45 => ?_
          subst e45
          rw [show tb t n q = t q from if_pos (by omega)]
          refine j_iadd (pc := 48) hK dX0_digits_48 ?_
          refine j_bipush (pc := 49) (v := 48) hK dX0_digits_49 (by decide) ?_
          refine j_isub (pc := 51) hK dX0_digits_51 ?_
          refine j_goto (pc := 52) (tgt := 59) hK dX0_digits_52 (by decide) ?_
          first | exact fin c16 _ (if_neg (fun z => absurd c30 (nI_ge z (by decide)))).symm | exact fin c16 _ (if_pos ((nI_ltI (by omega) (by decide)).mp (Int32.not_le.mp c30))).symm
  refine xz_open fun x r e => ?_
  refine j_aload_n (pc := 0) hK dX0_digits_0 rfl ?_
  refine j_iconst (pc := 1) (v := 0) hK dX0_digits_1 (by decide) ?_
  refine xz_put (pc := 2) (k := 22) hR hK (by decide) rfl q773 rfl rfl rfl rfl dX0_digits_2 ?_
  exact loop (n - F) F _ (by omega) (Nat.le_refl _) (r.pH (k := 22) rfl) e.1 e.2 (by rw [Nat.sub_self]; rfl) (by unfold enP; rw [hF, if_neg hFn', if_pos hdg])
theorem c_Xnext (hR : StR R) (hn : n ≤ 160) (hp : p ≤ n) : Ct Γ A yX0_next wX0_next 7 0 0 [.ref (L 35)] (XQ Γ L f g T (TB t n p o) R) (NX Γ L f g T t n p o R) := by
  refine Ct.of (cc := cX0_next) (nL := 2) (ret := none) (ls := [some (.ref (L 35)), none]) rfl rfl rfl (nle rfl) ?_
  intro K hK hQ
  obtain ⟨a165, v165, hev165, hS165⟩ := ls_X0_165 hK.g
  have hF := fr_le (t := t) hp
  generalize hFe : frP t n p = F at hF
  have seg : ∀ (x : XD), XR f g x → TB t n F o x → J Γ A K 39 [some (.ref (L 35)), none] [] (XZ Γ L T (f 17).toNatClampNeg R x) 0 0 := by
    intro x r hT
    by_cases hFn : F = n
    · have hso : soP t n p = 0 := by unfold soP; rw [hFe, if_pos hFn]
      have hen : enP t n p = F := by unfold enP; rw [hFe, if_pos hFn, hFn]
      refine j_aload_n (pc := 39) hK dX0_next_39 rfl ?_
      refine j_aload_n (pc := 40) hK dX0_next_40 rfl ?_
      refine xc_get (pc := 41) (k := 19) (v := nI F) hK (fun _ w => w.1) (by decide) rfl hT.2.2.1 q770 rfl dX0_next_41 ?_
      refine xz_put (pc := 44) (k := 20) hR hK (by decide) rfl q771 rfl rfl rfl rfl dX0_next_44 ?_
      refine j_aload_n (pc := 47) hK dX0_next_47 rfl ?_
      refine j_aload_n (pc := 48) hK dX0_next_48 rfl ?_
      refine xc_get (pc := 49) (k := 19) (v := nI F) hK (fun _ w => w.1) (by decide) rfl hT.2.2.1 q770 rfl dX0_next_49 ?_
      refine j_callV (pc := 52) hK hQ (c_XbyteAt (x := xpF x 20 (nI F)) (fun _ w => w.1) ⟨hT.1, hT.2.1⟩ hn (by omega)) cal_X0_byteAt (xc_isC (fun _ w => w.1)) q399 dX0_next_52 rfl rfl (nle rfl) (nle rfl) (nle rfl) (nle rfl) (kr_i fun r52 => ?_) kx_i
      refine J.pre fun e52 => ?_
      subst e52
      rw [show tb t n F = -1 from if_neg (by omega)]
      refine j_ist1 (pc := 55) hK dX0_next_55 (by decide) rfl ?_
      refine j_iload_n (pc := 56) hK dX0_next_56 rfl ?_
      refine j_iconst (pc := 57) (v := (-1)) hK dX0_next_57 (by decide) ?_
      refine j_icmp_ne (pc := 58) (tgt := 69) hK dX0_next_58 (by decide) (fun c58 => absurd rfl c58) (fun c58 => ?_)
      refine j_aload_n (pc := 61) hK dX0_next_61 rfl ?_
      refine j_iconst (pc := 62) (v := 0) hK dX0_next_62 (by decide) ?_
      refine xz_put (pc := 63) (k := 21) hR hK (by decide) rfl q772 rfl rfl rfl rfl dX0_next_63 ?_
      refine j_goto (pc := 66) (tgt := 131) hK dX0_next_66 (by decide) ?_
      exact j_vret (pc := 131) hK hQ (nle rfl) (nle rfl) dX0_next_131 (fun h w => Or.inl ⟨rfl, Or.inl hso, xz_close w ((r.pH (k := 20) rfl).pH (k := 21) rfl) ⟨by rw [hen]; exact hT, by rw [hFe]; rfl, Or.inl ⟨hso, rfl⟩⟩⟩)
    · obtain ⟨b, hb, eb⟩ := and255 (x.q 16 (nI F))
      have htF : t F = nI b := (hT.2.1 F (by omega)).symm.trans eb
      have hne : ¬ t F = -1 := by rw [htF]; exact nI_m1 (by omega)
      have h0 : 0 ≤ t F ∧ t F ≤ 255 := hT.tp.rng (by omega)
      have fin : isSg (t F) → ¬ isDg (t F) → ¬ isLt (t F) → J Γ A K 131 [some (.ref (L 35)), some (.int (t F))] [] (XZ Γ L T (f 17).toNatClampNeg R (xpF (xpF (xpF (xpF x 20 (nI F)) 21 4) 22 (t F)) 19 (nI F + 1))) 0 0 := by
        intro hsg c87 c73
        have hso : soP t n p = if isSg (t F) then 3 else 4 := by unfold soP; rw [hFe, if_neg hFn, if_neg c87, if_neg c73]
        have hen : enP t n p = F + 1 := by unfold enP; rw [hFe, if_neg hFn, if_neg c87, if_neg c73]
        have hva : vaP t n p = t F := by unfold vaP; rw [hFe, if_neg c87]
        rw [if_pos hsg] at hso
        exact j_vret (pc := 131) hK hQ (nle rfl) (nle rfl) dX0_next_131 (fun h w => Or.inl ⟨rfl, Or.inr (Or.inr (Or.inl hso)), xz_close w ((((r.pH (k := 20) rfl).pH (k := 21) rfl).pH (k := 22) rfl).pH (k := 19) rfl) ⟨⟨hT.1, hT.2.1, by rw [hen]; exact nI_1 F, hT.2.2.2⟩, by rw [hFe]; rfl, Or.inr (Or.inr (Or.inr (Or.inr ⟨hso, rfl, hva.symm⟩)))⟩⟩)
      refine j_aload_n (pc := 39) hK dX0_next_39 rfl ?_
      refine j_aload_n (pc := 40) hK dX0_next_40 rfl ?_
      refine xc_get (pc := 41) (k := 19) (v := nI F) hK (fun _ w => w.1) (by decide) rfl hT.2.2.1 q770 rfl dX0_next_41 ?_
      refine xz_put (pc := 44) (k := 20) hR hK (by decide) rfl q771 rfl rfl rfl rfl dX0_next_44 ?_
      refine j_aload_n (pc := 47) hK dX0_next_47 rfl ?_
      refine j_aload_n (pc := 48) hK dX0_next_48 rfl ?_
      refine xc_get (pc := 49) (k := 19) (v := nI F) hK (fun _ w => w.1) (by decide) rfl hT.2.2.1 q770 rfl dX0_next_49 ?_
      refine j_callV (pc := 52) hK hQ (c_XbyteAt (x := xpF x 20 (nI F)) (fun _ w => w.1) ⟨hT.1, hT.2.1⟩ hn (by omega)) cal_X0_byteAt (xc_isC (fun _ w => w.1)) q399 dX0_next_52 rfl rfl (nle rfl) (nle rfl) (nle rfl) (nle rfl) (kr_i fun r52 => ?_) kx_i
      refine J.pre fun e52 => ?_
      subst e52
      rw [show tb t n F = t F from if_pos (by omega)]
      refine j_ist1 (pc := 55) hK dX0_next_55 (by decide) rfl ?_
      refine j_iload_n (pc := 56) hK dX0_next_56 rfl ?_
      refine j_iconst (pc := 57) (v := (-1)) hK dX0_next_57 (by decide) ?_
      refine j_icmp_ne (pc := 58) (tgt := 69) hK dX0_next_58 (by decide) (fun c58 => ?_) (fun c58 => absurd c58 hne)
      refine j_iload_n (pc := 69) hK dX0_next_69 rfl ?_
      refine j_callS (pc := 70) hK hQ (c_XisLetter _) cal_X0_isLetter q403 dX0_next_70 rfl rfl (nle rfl) (nle rfl) (nle rfl) (nle rfl) (kr_i fun r70 => ?_) kx_i
      refine J.pre fun e70 => ?_
      subst e70
      refine j_if_eq_b (pc := 73) (tgt := 83) hK dX0_next_73 (by decide) (fun c73 => ?_) (fun c73 => ?_)
      · refine j_iload_n (pc := 83) hK dX0_next_83 rfl ?_
        refine j_callS (pc := 84) hK hQ (c_XisDigit _) cal_X0_isDigit q464 dX0_next_84 rfl rfl (nle rfl) (nle rfl) (nle rfl) (nle rfl) (kr_i fun r84 => ?_) kx_i
        refine J.pre fun e84 => ?_
        subst e84
        refine j_if_eq_b (pc := 87) (tgt := 97) hK dX0_next_87 (by decide) (fun c87 => ?_) (fun c87 => ?_)
        · have hso : soP t n p = if isSg (t F) then 3 else 4 := by unfold soP; rw [hFe, if_neg hFn, if_neg c87, if_neg c73]
          have hen : enP t n p = F + 1 := by unfold enP; rw [hFe, if_neg hFn, if_neg c87, if_neg c73]
          have hva : vaP t n p = t F := by unfold vaP; rw [hFe, if_neg c87]
          have sg := sg_all b (by omega)
          rw [← htF] at sg
          refine j_aload_n (pc := 97) hK dX0_next_97 rfl ?_
          refine j_iconst (pc := 98) (v := 4) hK dX0_next_98 (by decide) ?_
          refine xz_put (pc := 99) (k := 21) hR hK (by decide) rfl q772 rfl rfl rfl rfl dX0_next_99 ?_
          refine j_aload_n (pc := 102) hK dX0_next_102 rfl ?_
          refine j_iload_n (pc := 103) hK dX0_next_103 rfl ?_
          refine xz_put (pc := 104) (k := 22) hR hK (by decide) rfl q773 rfl rfl rfl rfl dX0_next_104 ?_
          refine j_aload_n (pc := 107) hK dX0_next_107 rfl ?_
          refine j_dup (pc := 108) hK dX0_next_108 rfl ?_
          refine xc_get (pc := 109) (k := 19) (v := nI F) hK (fun _ w => w.1) (by decide) rfl hT.2.2.1 q770 rfl dX0_next_109 ?_
          refine j_iconst (pc := 112) (v := 1) hK dX0_next_112 (by decide) ?_
          refine j_iadd (pc := 113) hK dX0_next_113 ?_
          refine xz_put (pc := 114) (k := 19) hR hK (by decide) rfl q770 rfl rfl rfl rfl dX0_next_114 ?_
          refine j_ldcs (pc := 117) hK q473 hev165 dX0_next_117 ?_
          refine j_iload_n (pc := 119) hK dX0_next_119 rfl ?_
          refine j_callL (pc := 120) hK hQ (c_J3ix hK.g hS165 (by decide) (by decide) h0) cal_J3_indexOf hS165 q474 dX0_next_120 rfl rfl (nle rfl) (nle rfl) (nle rfl) (nle rfl) (kr_i fun r120 => ?_) kx_i
          refine J.pre fun e120 => ?_
          refine j_if_ge (pc := 123) (tgt := 131) hK dX0_next_123 (by decide) (fun c123 => fin (Decidable.not_not.mp (fun z => absurd (e120.mpr (sg.mpr z)) (Int32.not_lt.mpr c123))) c87 c73) (fun c123 => ?_)
          have ns : ¬ isSg (t F) := sg.mp (e120.mp (Int32.not_le.mp c123))
          rw [if_neg ns] at hso
          have hb : ¬ gd t n p := fun z => by
            rcases z with z | z | z | ⟨z, _⟩ <;> (rw [hso] at z; exact absurd z (by decide))
          refine j_aload_n (pc := 126) hK dX0_next_126 rfl ?_
          refine xc_getR (pc := 127) (k := 10) hK (fun _ w => w.1) (by decide) rfl q760 rfl dX0_next_127 ?_
          refine j_athrow (pc := 130) hK dX0_next_130 ?_
          exact jt_leave hK hQ (by decide) (nle rfl) (nle rfl) (fun h w => Or.inr ⟨_, rfl, rfl, hb, xz_close w ((((r.pH (k := 20) rfl).pH (k := 21) rfl).pH (k := 22) rfl).pH (k := 19) rfl) (by show _ = nI (frP t n p); rw [hFe]; rfl)⟩)
        · refine j_aload_n (pc := 90) hK dX0_next_90 rfl ?_
          refine J.mono (P' := XQ Γ L f g T (AT t n F o) R) (fun h w => xz_close w (r.pH (k := 20) rfl) ⟨hT, rfl⟩) ?_
          refine j_callV (pc := 91) hK hQ (c_Xdigits hR hn hFe (by omega) c87) cal_X0_digits (fun h w => xi_isC (fun _ w => w) h w.1) q469 dX0_next_91 rfl rfl (nle rfl) (nle rfl) (nle rfl) (nle rfl) (kr_t (kr_v ?_)) (kx_t nt_v fun x => jt_leave hK hQ (by decide) (nle rfl) (nle rfl) (fun h w => Or.inr ⟨_, rfl, w⟩))
          refine j_goto (pc := 94) (tgt := 131) hK dX0_next_94 (by decide) ?_
          exact j_vret (pc := 131) hK hQ (nle rfl) (nle rfl) dX0_next_131 (fun h w => Or.inl ⟨rfl, w⟩)
      · refine j_aload_n (pc := 76) hK dX0_next_76 rfl ?_
        refine J.mono (P' := XQ Γ L f g T (AT t n F o) R) (fun h w => xz_close w (r.pH (k := 20) rfl) ⟨hT, rfl⟩) ?_
        refine j_callV (pc := 77) hK hQ (c_Xword hR hn hFe (by omega) (fun z => lt_ndg c73 z) c73) cal_X0_word (fun h w => xi_isC (fun _ w => w) h w.1) q408 dX0_next_77 rfl rfl (nle rfl) (nle rfl) (nle rfl) (nle rfl) (kr_t (kr_v ?_)) (kx_t nt_v fun x => jt_leave hK hQ (by decide) (nle rfl) (nle rfl) (fun h w => Or.inr ⟨_, rfl, w⟩))
        refine j_goto (pc := 80) (tgt := 131) hK dX0_next_80 (by decide) ?_
        exact j_vret (pc := 131) hK hQ (nle rfl) (nle rfl) dX0_next_131 (fun h w => Or.inl ⟨rfl, w⟩)
  have loop : ∀ (r q : Nat) (x : XD), q + r = n → XR f g x → TB t n q o x → skp t r q = F → J Γ A K 0 [some (.ref (L 35)), none] [] (XZ Γ L T (f 17).toNatClampNeg R x) 0 0 := by
    intro r
    induction r with
    | zero =>
      intro q x hq r hT hr
      have hr' : q = F := hr
      subst hr'
      refine j_aload_n (pc := 0) hK dX0_next_0 rfl ?_
      refine j_aload_n (pc := 1) hK dX0_next_1 rfl ?_
      refine xc_get (pc := 2) (k := 19) (v := nI q) hK (fun _ w => w.1) (by decide) rfl hT.2.2.1 q770 rfl dX0_next_2 ?_
      refine j_callV (pc := 5) hK hQ (c_XbyteAt (fun _ w => w.1) hT.tp hn (by omega)) cal_X0_byteAt (xc_isC (fun _ w => w.1)) q399 dX0_next_5 rfl rfl (nle rfl) (nle rfl) (nle rfl) (nle rfl) (kr_i fun r5 => ?_) kx_i
      refine J.pre fun e5 => ?_
      subst e5
      rw [show tb t n q = -1 from if_neg (by omega)]
      refine j_bipush (pc := 8) (v := 32) hK dX0_next_8 (by decide) ?_
      refine j_icmp_eq (pc := 10) (tgt := 26) hK dX0_next_10 (by decide) (fun c10 => absurd c10 (by decide)) (fun c10 => ?_)
      refine j_aload_n (pc := 13) hK dX0_next_13 rfl ?_
      refine j_aload_n (pc := 14) hK dX0_next_14 rfl ?_
      refine xc_get (pc := 15) (k := 19) (v := nI q) hK (fun _ w => w.1) (by decide) rfl hT.2.2.1 q770 rfl dX0_next_15 ?_
      refine j_callV (pc := 18) hK hQ (c_XbyteAt (fun _ w => w.1) hT.tp hn (by omega)) cal_X0_byteAt (xc_isC (fun _ w => w.1)) q399 dX0_next_18 rfl rfl (nle rfl) (nle rfl) (nle rfl) (nle rfl) (kr_i fun r18 => ?_) kx_i
      refine J.pre fun e18 => ?_
      subst e18
      rw [show tb t n q = -1 from if_neg (by omega)]
      refine j_bipush (pc := 21) (v := 10) hK dX0_next_21 (by decide) ?_
      refine j_icmp_ne (pc := 23) (tgt := 39) hK dX0_next_23 (by decide) (fun c23 => ?_) (fun c23 => absurd c23 (by decide))
      exact seg x r hT
    | succ m ih =>
      intro q x hq r hT hr
      have hr' : (if t q = 32 ∨ t q = 10 then skp t m (q + 1) else q) = F := hr
      refine j_aload_n (pc := 0) hK dX0_next_0 rfl ?_
      refine j_aload_n (pc := 1) hK dX0_next_1 rfl ?_
      refine xc_get (pc := 2) (k := 19) (v := nI q) hK (fun _ w => w.1) (by decide) rfl hT.2.2.1 q770 rfl dX0_next_2 ?_
      refine j_callV (pc := 5) hK hQ (c_XbyteAt (fun _ w => w.1) hT.tp hn (by omega)) cal_X0_byteAt (xc_isC (fun _ w => w.1)) q399 dX0_next_5 rfl rfl (nle rfl) (nle rfl) (nle rfl) (nle rfl) (kr_i fun r5 => ?_) kx_i
      refine J.pre fun e5 => ?_
      subst e5
      rw [show tb t n q = t q from if_pos (by omega)]
      refine j_bipush (pc := 8) (v := 32) hK dX0_next_8 (by decide) ?_
      refine j_icmp_eq (pc := 10) (tgt := 26) hK dX0_next_10 (by decide) (fun c10 => ?_) (fun c10 => ?_)
      · refine j_aload_n (pc := 26) hK dX0_next_26 rfl ?_
        refine j_dup (pc := 27) hK dX0_next_27 rfl ?_
        refine xc_get (pc := 28) (k := 19) (v := nI q) hK (fun _ w => w.1) (by decide) rfl hT.2.2.1 q770 rfl dX0_next_28 ?_
        refine j_iconst (pc := 31) (v := 1) hK dX0_next_31 (by decide) ?_
        refine j_iadd (pc := 32) hK dX0_next_32 ?_
        refine xz_put (pc := 33) (k := 19) hR hK (by decide) rfl q770 rfl rfl rfl rfl dX0_next_33 ?_
        refine j_goto (pc := 36) (tgt := 0) hK dX0_next_36 (by decide) ?_
        rw [if_pos (by first | exact Or.inl c10 | exact Or.inr c23)] at hr'
        exact ih (q + 1) _ (by omega) (r.pH (k := 19) rfl) ⟨hT.1, hT.2.1, nI_1 q, hT.2.2.2⟩ hr'
      · refine j_aload_n (pc := 13) hK dX0_next_13 rfl ?_
        refine j_aload_n (pc := 14) hK dX0_next_14 rfl ?_
        refine xc_get (pc := 15) (k := 19) (v := nI q) hK (fun _ w => w.1) (by decide) rfl hT.2.2.1 q770 rfl dX0_next_15 ?_
        refine j_callV (pc := 18) hK hQ (c_XbyteAt (fun _ w => w.1) hT.tp hn (by omega)) cal_X0_byteAt (xc_isC (fun _ w => w.1)) q399 dX0_next_18 rfl rfl (nle rfl) (nle rfl) (nle rfl) (nle rfl) (kr_i fun r18 => ?_) kx_i
        refine J.pre fun e18 => ?_
        subst e18
        rw [show tb t n q = t q from if_pos (by omega)]
        refine j_bipush (pc := 21) (v := 10) hK dX0_next_21 (by decide) ?_
        refine j_icmp_ne (pc := 23) (tgt := 39) hK dX0_next_23 (by decide) (fun c23 => ?_) (fun c23 => ?_)
        · rw [if_neg (fun z => z.elim c10 c23)] at hr'
          exact seg x r (by rw [← hr']; exact hT)
        · refine j_aload_n (pc := 26) hK dX0_next_26 rfl ?_
          refine j_dup (pc := 27) hK dX0_next_27 rfl ?_
          refine xc_get (pc := 28) (k := 19) (v := nI q) hK (fun _ w => w.1) (by decide) rfl hT.2.2.1 q770 rfl dX0_next_28 ?_
          refine j_iconst (pc := 31) (v := 1) hK dX0_next_31 (by decide) ?_
          refine j_iadd (pc := 32) hK dX0_next_32 ?_
          refine xz_put (pc := 33) (k := 19) hR hK (by decide) rfl q770 rfl rfl rfl rfl dX0_next_33 ?_
          refine j_goto (pc := 36) (tgt := 0) hK dX0_next_36 (by decide) ?_
          rw [if_pos (by first | exact Or.inl c10 | exact Or.inr c23)] at hr'
          exact ih (q + 1) _ (by omega) (r.pH (k := 19) rfl) ⟨hT.1, hT.2.1, nI_1 q, hT.2.2.2⟩ hr'
  refine xz_open fun x r e => ?_
  exact loop (n - p) p x (by omega) r e hFe
end P74
