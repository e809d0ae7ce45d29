/-! an array of arrays of ints at one stroke -/
set_option maxRecDepth 100000
section MU
/-- the row of rows while it is filled: i rows lie there -/
def mso (c : ClassId) (N h0 i : Nat) : Cell := arrV c N fun j => if j < i then .ref (h0 + 1 + j) else .null
def mst (T : State) (cA cI : ClassId) (N M : Nat) : Nat → State
  | 0 => T.pushCell (mso cA N T.heap.size 0)
  | i + 1 => ((mst T cA cI N M i).pushCell (arrV cI M fun _ => .int 0)).setCell T.heap.size (mso cA N T.heap.size (i + 1))
theorem mso_next (c : ClassId) (N h0 i : Nat) : (mso c N h0 i).setSlot i (.ref (h0 + 1 + i)) = mso c N h0 (i + 1) := by
  unfold mso
  rw [arrV_store]
  refine congrArg (arrV c N) (funext fun j => ?_)
  unfold updV
  by_cases e : j = i
  · subst e
    simp
  · by_cases h : j < i
    · simp [e, h, show j < i + 1 by omega]
    · simp [e, h, show ¬ j < i + 1 by omega]
theorem mst_facts (T : State) (cA cI : ClassId) (N M : Nat) : ∀ i, (mst T cA cI N M i).heap.size = T.heap.size + 1 + i ∧ (mst T cA cI N M i).heap[T.heap.size]? = some (mso cA N T.heap.size i) ∧ (mst T cA cI N M i).vm = T.vm ∧ (mst T cA cI N M i).slotsUsed = T.slotsUsed + N + i * M ∧ (∀ q, q < T.heap.size → (mst T cA cI N M i).heap[q]? = T.heap[q]?) ∧ ∀ j, j < i → (mst T cA cI N M i).heap[T.heap.size + 1 + j]? = some (arrV cI M fun _ => .int 0) := by
  intro i
  induction i with
  | zero =>
    refine ⟨by simp [mst], by simp [mst], rfl, ?_, fun q hq => ?_, fun j hj => by omega⟩
    · show (T.pushCell _).slotsUsed = _
      rw [State.slotsUsed_pushCell]
      show T.slotsUsed + (arrV _ _ _).slots.size = _
      rw [arrV_size]
      omega
    · exact State.heap_pushCell_of_lt _ _ hq
  | succ i ih =>
    obtain ⟨a, b, c, u, o, r⟩ := ih
    have hlt : T.heap.size < (mst T cA cI N M i).heap.size := by omega
    have hb : ((mst T cA cI N M i).pushCell (arrV cI M fun _ => .int 0)).heap[T.heap.size]? = some (mso cA N T.heap.size i) := by rw [State.heap_pushCell_of_lt (h := hlt)]; exact b
    refine ⟨?_, State.heap_setCell_self hb, by simp [mst, c], ?_, fun q hq => ?_, fun j hj => ?_⟩
    · simp [mst, State.setCell, a]; omega
    · have e : (mst T cA cI N M (i + 1)).slotsUsed = (mst T cA cI N M i).slotsUsed + (arrV cI M fun _ => Value.int 0).slots.size := by simp [mst]
      rw [e, u, arrV_size, Nat.succ_mul]
      omega
    · have hlt2 : q < (mst T cA cI N M i).heap.size := by omega
      show (((mst T cA cI N M i).pushCell (arrV cI M fun _ => .int 0)).setCell T.heap.size _).heap[q]? = _
      rw [State.heap_setCell_other (Nat.ne_of_gt hq), State.heap_pushCell_of_lt (h := hlt2)]
      exact o q hq
    · show (((mst T cA cI N M i).pushCell (arrV cI M fun _ => .int 0)).setCell T.heap.size _).heap[T.heap.size + 1 + j]? = _
      rw [State.heap_setCell_other (show T.heap.size ≠ T.heap.size + 1 + j by omega)]
      rcases Nat.lt_or_ge j i with hj' | hj'
      · have hlt2 : T.heap.size + 1 + j < (mst T cA cI N M i).heap.size := by omega
        rw [State.heap_pushCell_of_lt (h := hlt2)]
        exact r j hj'
      · have e : j = i := by omega
        subst e
        rw [← a]
        exact State.heap_pushCell_size _ _
theorem mst_setTop (T : State) (f : JFrame) (cA cI : ClassId) (N M : Nat) : ∀ i, mst (T.setTop f) cA cI N M i = (mst T cA cI N M i).setTop f := by
  intro i
  induction i with
  | zero => rfl
  | succ i ih => simp only [mst, ih, State.heap_setTop, State.pushCell_setTop, State.setCell_setTop]
theorem mst_stand {p : Program} {l : Launch} {e : Env} {R : Room} {s : State} {m : MethodId} {args : Array Value} {below : List Frame} {meth : Method} {c : Code} {T : State} {locs : List Loc} {cells slots : Nat} (X : Stand p l e R s m args below meth c T locs cells slots) (cA cI : ClassId) (N M : Nat) : ∀ i, ∃ L2 : List Loc, Stand p l e R s m args below meth c (mst T cA cI N M i) (locs ++ L2) (cells + 1 + i) (slots + N + i * M) ∧ ∀ q ∈ L2, q.base = T.heap.size := by
  intro i
  induction i with
  | zero =>
    have h := X.pushed (mso cA N T.heap.size 0)
    have e : (mso cA N T.heap.size 0).slots.size = N := arrV_size _ _ _
    rw [e] at h
    refine ⟨[], ?_, fun q hq => by cases hq⟩
    rw [List.append_nil, Nat.zero_mul]
    exact h
  | succ i ih =>
    obtain ⟨L2, Xi, hL⟩ := ih
    obtain ⟨a, b, -⟩ := mst_facts T cA cI N M i
    have hlt : T.heap.size < (mst T cA cI N M i).heap.size := by omega
    have hb : ((mst T cA cI N M i).pushCell (arrV cI M fun _ => .int 0)).heap[T.heap.size]? = some (mso cA N T.heap.size i) := by rw [State.heap_pushCell_of_lt (h := hlt)]; exact b
    have h := (Xi.pushed (arrV cI M fun _ => .int 0)).stored hb i (.ref (T.heap.size + 1 + i))
    rw [mso_next, arrV_size, List.append_assoc] at h
    refine ⟨L2 ++ [⟨T.heap.size, i⟩], ?_, fun q hq => ?_⟩
    · rw [Nat.succ_mul, ← Nat.add_assoc, ← Nat.add_assoc]
      exact h
    · rcases List.mem_append.mp hq with z | z
      · exact hL q z
      · rw [List.mem_singleton.mp z]
/-- the machine's 'make' of n rows of m ints -/
theorem wp_mst {E : CtlPost} {e : Env} {d : Bool} {acts : List Action} {s : State} {c comp cc : ClassId} {k kc : Class} {n m : Int32} (hk : s.vm.classes[c]? = some k) (hkind : k.kind = .array comp (.array .int)) (hkc : s.vm.classes[comp]? = some kc) (hkindc : kc.kind = .array cc .int) (hn : ¬ n < 0) (hm : ¬ m < 0)
    (hl1 : ¬ n.toNatClampNeg > e.platform.arrayLengthLimit) (hh1 : ¬ n.toNatClampNeg * componentBytes (.array .int) > e.platform.maxHeapBytes) (hl2 : ¬ m.toNatClampNeg > e.platform.arrayLengthLimit) (hh2 : ¬ m.toNatClampNeg * componentBytes .int > e.platform.maxHeapBytes)
    (hc : s.heap.size + 1 + n.toNatClampNeg ≤ e.platform.maxCells) (hs : s.slotsUsed + n.toNatClampNeg + n.toNatClampNeg * m.toNatClampNeg ≤ e.platform.maxSlots)
    {Q : Addr → Pre} (hq : ∀ d' acts', Q s.heap.size d' acts' (mst s c comp n.toNatClampNeg m.toNatClampNeg n.toNatClampNeg)) : Sem.wp (Op.multianewarray.make c [n, m]) Q E e d acts s := by
  have hfind : ([m].find? (· < 0)) = none := by simp [hm]
  have hnm := Nat.zero_le (n.toNatClampNeg * m.toNatClampNeg)
  rw [Op.multianewarray.make]
  simp only [wp_bind', W.ite, hn, if_false, wp_pure', W.theClass, hk, hkind, Option.some.injEq, exists_eq_left']
  refine W.newArray_of hk hkind hl1 hh1 (by omega) (by omega) rfl (fun acts1 => ?_)
  simp only [hfind]
  rw [ite_self, wp_bind', Std.Legacy.Range.forIn_eq_forIn_range']
  have hsz : ([:n.toNatClampNeg] : Std.Legacy.Range).size = n.toNatClampNeg := by simp [Std.Legacy.Range.size]
  rw [hsz]
  show Sem.wp (forIn (List.range' 0 n.toNatClampNeg 1) PUnit.unit _) _ E e d acts1 _
  have e0 : s.pushCell ({ cls := c, slots := Array.replicate n.toNatClampNeg .null } : Cell) = mst s c comp n.toNatClampNeg m.toNatClampNeg 0 := by
    show _ = s.pushCell (mso c n.toNatClampNeg s.heap.size 0)
    refine congrArg s.pushCell ((arrV_new c n.toNatClampNeg .null).trans ?_)
    unfold mso
    exact congrArg (arrV c n.toNatClampNeg) (funext fun j => by simp)
  refine wp_forIn_inv (fun rest s' => ∃ i, i ≤ n.toNatClampNeg ∧ rest = List.range' i (n.toNatClampNeg - i) ∧ s' = mst s c comp n.toNatClampNeg m.toNatClampNeg i) _ _ ⟨0, Nat.zero_le _, rfl, e0⟩ ?_ ?_
  · rintro x rest s' d' acts' Q' ⟨i, hi, hl, rfl⟩ hnext
    have hlt : i < n.toNatClampNeg := by
      rcases Nat.lt_or_ge i n.toNatClampNeg with h | h
      · exact h
      · rw [show n.toNatClampNeg - i = 0 by omega] at hl; simp at hl
    obtain ⟨rfl, hrest⟩ : x = i ∧ rest = List.range' (i + 1) (n.toNatClampNeg - (i + 1)) := by
      rw [show n.toNatClampNeg - i = (n.toNatClampNeg - (i + 1)) + 1 by omega, List.range'_succ] at hl
      exact ⟨(List.cons.inj hl).1, (List.cons.inj hl).2⟩
    obtain ⟨f1, f2, f3, f4, -, -⟩ := mst_facts s c comp n.toNatClampNeg m.toNatClampNeg x
    have hmul : x * m.toNatClampNeg + m.toNatClampNeg ≤ n.toNatClampNeg * m.toNatClampNeg := by
      have := Nat.mul_le_mul_right m.toNatClampNeg (show x + 1 ≤ n.toNatClampNeg from hlt)
      rw [Nat.succ_mul] at this; exact this
    simp only [wp_bind']
    rw [Op.multianewarray.make]
    simp only [wp_bind', W.ite, hm, if_false, wp_pure', W.theClass, f3, hkc, hkindc, Option.some.injEq, exists_eq_left']
    refine W.newArray_of (by rw [f3]; exact hkc) hkindc hl2 hh2 (by rw [f1]; omega) (by rw [f4]; omega) rfl (fun acts2 => ?_)
    have hlt0 : s.heap.size < (mst s c comp n.toNatClampNeg m.toNatClampNeg x).heap.size := by rw [f1]; omega
    simp only [wp_bind', W.writeLoc, wp_pure']
    refine ⟨mso c n.toNatClampNeg s.heap.size x, by rw [State.heap_pushCell_of_lt (h := hlt0)]; exact f2, by simp [mso, arrV], by show x < (arrV _ _ _).slots.size; rw [arrV_size]; exact hlt, ?_, hnext _ _ _ ⟨x + 1, hlt, hrest, ?_⟩⟩
    · show State.fitsSlot _ c .none x _ = true
      simp [State.fitsSlot, State.slotType?, f3, hk, hkind, fits]
    · rw [f1, mso_next]
      show _ = ((mst s c comp n.toNatClampNeg m.toNatClampNeg x).pushCell (arrV comp m.toNatClampNeg fun _ => .int 0)).setCell s.heap.size _
      rw [← arrV_new]
      rfl
  · rintro s' d' acts' ⟨i, hi, hl, rfl⟩
    have hiN : i = n.toNatClampNeg := by
      rcases Nat.lt_or_ge i n.toNatClampNeg with h | h
      · rw [show n.toNatClampNeg - i = (n.toNatClampNeg - (i + 1)) + 1 by omega, List.range'_succ] at hl; cases hl
      · omega
    subst hiN
    simp only [wp_pure']
    exact hq _ _
end MU
