section MULTI
variable {E : CtlPost} {e : Env} {dd : Bool} {acts : List Action} {s : State}
def mrow (k : ClassId) (N : Nat) (v : Value) : Cell := { cls := k, slots := Array.replicate N v, vm := .none }
theorem mu_new {k comp : ClassId} {kC : Class} {ty : FieldType} {N : Nat} {v : Value} (hk : s.vm.classes[k]? = some kC) (hkind : kC.kind = .array comp ty) (h1 : ¬ N > e.platform.arrayLengthLimit) (h2 : ¬ N * componentBytes ty > e.platform.maxHeapBytes) (hf : fits ty v = true) (hd : v.isDefault = true) {Q : Addr → Pre} (h3 : s.heap.size < e.platform.maxCells) (h4 : s.slotsUsed + N ≤ e.platform.maxSlots) (hq : Q s.heap.size dd acts (s.pushCell (mrow k N v))) : wp (Jvm.newArray k N v) Q E e dd acts s := by
  have hfs : ∀ i x, (Array.replicate N v)[i]? = some x → s.fitsSlot k .none i x = true := by
    intro i x hx
    rw [Array.getElem?_replicate] at hx
    split at hx
    · cases hx
      simp [State.fitsSlot, State.slotType?, hk, hkind, hf]
    · cases hx
  have ha : allocActs (Array.replicate N v) s.heap.size acts = acts := by
    unfold allocActs
    rw [if_pos]
    rw [Array.all_replicate]
    split <;> simp [hd]
  simp only [Jvm.newArray, Jvm.arrayFits, wp_bind', W.ask, W.ite, h1, if_false, wp_pure', W.theClass, hk, hkind, h2, W.alloc, W.stop, Option.some.injEq, exists_eq_left', Array.size_replicate, ha]
  rw [if_neg (by omega)]
  exact ⟨h3, h4, hfs, hq⟩
def mstep (s : State) (h0 comp : Nat) (C : Cell) (i : Nat) : State := (s.pushCell (mrow comp 8 (.int 0))).setCell h0 (C.setSlot i (.ref s.heap.size))
theorem mu_one {comp cc : ClassId} {kc : Class} (hkc : s.vm.classes[comp]? = some kc) (hkind : kc.kind = .array cc .int) (h1 : ¬ 8 > e.platform.arrayLengthLimit) (h2 : ¬ 8 * componentBytes .int > e.platform.maxHeapBytes) (h3 : s.heap.size < e.platform.maxCells) (h4 : s.slotsUsed + 8 ≤ e.platform.maxSlots) {Q : Addr → Pre} (hq : Q s.heap.size dd acts (s.pushCell (mrow comp 8 (.int 0)))) : wp (multianewarray.make comp [8]) Q E e dd acts s := by
  rw [multianewarray.make]
  simp only [wp_bind', W.ite, show ¬ (8 : Int32) < 0 by decide, if_false, wp_pure', W.theClass, hkc, hkind, Option.some.injEq, exists_eq_left']
  exact mu_new hkc hkind h1 h2 rfl rfl h3 h4 hq
theorem mu_ref {ty : FieldType} (h : ty.isReference = true) {v : Value} (hv : v = .null ∨ ∃ a, v = .ref a) : fits ty v = true := by
  rcases hv with rfl | ⟨a, rfl⟩ <;> cases ty <;> simp [FieldType.isReference] at h <;> rfl
theorem mu_step {k comp cc : ClassId} {kA kc : Class} {h0 i : Nat} {C : Cell} (hk : s.vm.classes[k]? = some kA) (hkA : kA.kind = .array comp (.array .int)) (hkc : s.vm.classes[comp]? = some kc) (hkind : kc.kind = .array cc .int) (h1 : ¬ 8 > e.platform.arrayLengthLimit) (h2 : ¬ 8 * componentBytes .int > e.platform.maxHeapBytes) (h3 : s.heap.size < e.platform.maxCells) (h4 : s.slotsUsed + 8 ≤ e.platform.maxSlots)
    (hC : s.heap[h0]? = some C) (hcl : C.cls = k) (hvm : C.vm = .none) (hsz : C.slots.size = 4) (hi : i < 4) {Q : ForInStep PUnit → Pre} (hq : ∀ d' acts', Q (.yield PUnit.unit) d' acts' (mstep s h0 comp C i)) : wp (multianewarray.make comp [8]) (fun a => wp (do writeLoc h0 i (.ref a); Pure.pure (ForInStep.yield PUnit.unit)) Q E e) E e dd acts s := by
  have hlt : h0 < s.heap.size := (Array.getElem?_eq_some_iff.mp hC).1
  refine mu_one hkc hkind h1 h2 h3 h4 ?_
  simp only [wp_bind', W.writeLoc, wp_pure']
  refine ⟨C, by rw [State.heap_pushCell_of_lt (h := hlt)]; exact hC, by rw [hvm]; simp, by rw [hsz]; exact hi, ?_, hq _ _⟩
  rw [hcl, hvm]
  simp [State.fitsSlot, State.slotType?, hk, hkA, mu_ref (ty := .array .int) rfl (Or.inr ⟨_, rfl⟩)]
theorem mstep_vm {s : State} {h0 comp i : Nat} {C : Cell} : (mstep s h0 comp C i).vm = s.vm := by simp [mstep]
theorem mstep_size {s : State} {h0 comp i : Nat} {C : Cell} : (mstep s h0 comp C i).heap.size = s.heap.size + 1 := by simp [mstep, State.setCell]
theorem mstep_slots {s : State} {h0 comp i : Nat} {C : Cell} : (mstep s h0 comp C i).slotsUsed = s.slotsUsed + 8 := by simp [mstep, mrow]
theorem mstep_h0 {s : State} {h0 comp i : Nat} {C : Cell} (hC : s.heap[h0]? = some C) : (mstep s h0 comp C i).heap[h0]? = some (C.setSlot i (.ref s.heap.size)) := by
  have hlt : h0 < s.heap.size := (Array.getElem?_eq_some_iff.mp hC).1
  exact State.heap_setCell_self (by rw [State.heap_pushCell_of_lt (h := hlt)]; exact hC)
theorem mstep_old {s : State} {h0 comp i q : Nat} {C : Cell} (hq : q < s.heap.size) (hne : q ≠ h0) : (mstep s h0 comp C i).heap[q]? = s.heap[q]? := by
  show ((s.pushCell _).setCell h0 _).heap[q]? = _
  rw [State.heap_setCell_other (Ne.symm hne), State.heap_pushCell_of_lt (h := hq)]
theorem mstep_new {s : State} {h0 comp i : Nat} {C : Cell} (hC : s.heap[h0]? = some C) : (mstep s h0 comp C i).heap[s.heap.size]? = some (mrow comp 8 (.int 0)) := by
  have hlt : h0 < s.heap.size := (Array.getElem?_eq_some_iff.mp hC).1
  show ((s.pushCell _).setCell h0 _).heap[s.heap.size]? = _
  rw [State.heap_setCell_other (show h0 ≠ s.heap.size by omega)]
  exact State.heap_pushCell_size _ _
theorem mstep_top {s : State} {h0 comp i : Nat} {C : Cell} {f : JFrame} : mstep (s.setTop f) h0 comp C i = (mstep s h0 comp C i).setTop f := by
  simp only [mstep, State.heap_setTop, State.pushCell_setTop, State.setCell_setTop]
def mout (k : ClassId) (h0 : Nat) : Nat → Cell
  | 0 => mrow k 4 .null
  | i + 1 => (mout k h0 i).setSlot i (.ref (h0 + 1 + i))
theorem mout_f (k : ClassId) (h0 : Nat) : ∀ i, (mout k h0 i).cls = k ∧ (mout k h0 i).vm = .none ∧ (mout k h0 i).slots.size = 4
  | 0 => ⟨rfl, rfl, by simp [mout, mrow]⟩
  | i + 1 => by
    obtain ⟨a, b, c⟩ := mout_f k h0 i
    exact ⟨by simp [mout, Cell.setSlot, a], by simp [mout, Cell.setSlot, b], by simp [mout, Cell.setSlot, c]⟩
def mst4 (s : State) (k comp : ClassId) : Nat → State
  | 0 => s.pushCell (mrow k 4 .null)
  | i + 1 => mstep (mst4 s k comp i) s.heap.size comp (mout k s.heap.size i) i
theorem mst4_f (s : State) (k comp : ClassId) : ∀ i, (mst4 s k comp i).vm = s.vm ∧ (mst4 s k comp i).heap.size = s.heap.size + 1 + i ∧ (mst4 s k comp i).slotsUsed = s.slotsUsed + 4 + 8 * i ∧ (mst4 s k comp i).heap[s.heap.size]? = some (mout k s.heap.size i)
  | 0 => ⟨by simp [mst4], by simp [mst4], by simp [mst4, mrow], by exact State.heap_pushCell_size _ _⟩
  | i + 1 => by
    obtain ⟨a, b, c, d⟩ := mst4_f s k comp i
    refine ⟨by rw [mst4, mstep_vm, a], by rw [mst4, mstep_size, b]; omega, by rw [mst4, mstep_slots, c]; omega, ?_⟩
    rw [mst4, mstep_h0 d, b]
    rfl
theorem mst4_old (s : State) (k comp : ClassId) {q : Nat} (hq : q < s.heap.size) : ∀ i, (mst4 s k comp i).heap[q]? = s.heap[q]?
  | 0 => State.heap_pushCell_of_lt _ _ hq
  | i + 1 => by
    have b := (mst4_f s k comp i).2.1
    rw [mst4, mstep_old (by omega) (by omega)]
    exact mst4_old s k comp hq i
theorem mst4_row (s : State) (k comp : ClassId) : ∀ i j, j < i → (mst4 s k comp i).heap[s.heap.size + 1 + j]? = some (mrow comp 8 (.int 0))
  | 0, _, h => absurd h (Nat.not_lt_zero _)
  | i + 1, j, h => by
    obtain ⟨a, b, c, d⟩ := mst4_f s k comp i
    rw [mst4]
    by_cases e : j = i
    · subst e
      rw [← b]
      exact mstep_new d
    · rw [mstep_old (by omega) (by omega)]
      exact mst4_row s k comp i j (by omega)
theorem mst4_top (s : State) (k comp : ClassId) (f : JFrame) : ∀ i, mst4 (s.setTop f) k comp i = (mst4 s k comp i).setTop f
  | 0 => by simp only [mst4, State.pushCell_setTop]
  | i + 1 => by
    rw [mst4, mst4_top s k comp f i, State.heap_setTop, mstep_top]
    rfl
theorem mu_four {k comp cc : ClassId} {kA kc : Class} (hk : s.vm.classes[k]? = some kA) (hkA : kA.kind = .array comp (.array .int)) (hkc : s.vm.classes[comp]? = some kc) (hkind : kc.kind = .array cc .int) (h1 : ¬ 8 > e.platform.arrayLengthLimit) (h2 : ¬ 8 * componentBytes .int > e.platform.maxHeapBytes) (h1' : ¬ 4 > e.platform.arrayLengthLimit) (h2' : ¬ 4 * componentBytes (.array .int) > e.platform.maxHeapBytes) (h3 : s.heap.size + 5 ≤ e.platform.maxCells) (h4 : s.slotsUsed + 36 ≤ e.platform.maxSlots) {Q : Addr → Pre} (hq : ∀ d' acts', Q s.heap.size d' acts' (mst4 s k comp 4)) : wp (multianewarray.make k [4, 8]) Q E e dd acts s := by
  rw [multianewarray.make]
  simp only [wp_bind', W.ite, show ¬ (4 : Int32) < 0 by decide, if_false, wp_pure', W.theClass, hk, hkA, Option.some.injEq, exists_eq_left']
  refine mu_new hk hkA h1' h2' (mu_ref rfl (Or.inl rfl)) rfl (by omega) (by omega) ?_
  have go : ∀ i, i < 4 → ∀ {Q : ForInStep PUnit → Pre} {d0 : Bool} {a0 : List Action}, (∀ d' acts', Q (.yield PUnit.unit) d' acts' (mst4 s k comp (i + 1))) → wp (multianewarray.make comp [8]) (fun a => wp (do writeLoc s.heap.size i (.ref a); Pure.pure (ForInStep.yield PUnit.unit)) Q E e) E e d0 a0 (mst4 s k comp i) := by
    intro i hi Q d0 a0 hn
    obtain ⟨a, b, c, d⟩ := mst4_f s k comp i
    obtain ⟨o1, o2, o3⟩ := mout_f k s.heap.size i
    exact mu_step (by rw [a]; exact hk) hkA (by rw [a]; exact hkc) hkind h1 h2 (by omega) (by omega) d o1 o2 o3 hi hn
  simp only [Std.Legacy.Range.forIn_eq_forIn_range']
  rw [if_neg (by decide), show ([:Int32.toNatClampNeg 4] : Std.Legacy.Range).size = 4 from rfl, show List.range' 0 4 = [0, 1, 2, 3] from rfl]
  simp only [List.forIn_cons, List.forIn_nil, wp_bind', wp_pure']
  refine go 0 (by decide) fun d1 a1 => ?_
  simp only [wp_bind', wp_pure']
  refine go 1 (by decide) fun d2 a2 => ?_
  simp only [wp_bind', wp_pure']
  refine go 2 (by decide) fun d3 a3 => ?_
  simp only [wp_bind', wp_pure']
  refine go 3 (by decide) fun d4 a4 => ?_
  simp only [wp_bind', wp_pure']
  exact hq _ _
end MULTI
