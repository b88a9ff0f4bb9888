section MULTI2
variable {p : Program} {l : Launch} {e : Env} {R : Room} {s : State} {m : MethodId} {args : Array Value} {below : List Frame} {meth : Method} {c : Code} {H : Heap} {locs : List Loc} {cells slots : Nat} {Q : State → Prop}
variable {cc : ByteArray} {pc : Nat} {ls : Array Slot} {rest : List Value} {T : State}
theorem st_four (X : Stand p l e R s m args below meth c T locs cells slots) (k comp : ClassId) : ∀ i, Stand p l e R s m args below meth c (mst4 T k comp i) (locs ++ (List.range i).map fun j => ⟨T.heap.size, j⟩) (cells + 1 + i) (slots + 4 + 8 * i)
  | 0 => by
    have h := X.pushed (mrow k 4 .null)
    have e1 : (mrow k 4 .null).slots.size = 4 := by simp [mrow]
    rw [e1] at h
    simpa [mst4] using h
  | i + 1 => by
    have Xi := st_four X k comp i
    obtain ⟨a, b, c, d⟩ := mst4_f T k comp i
    have hlt : T.heap.size < (mst4 T k comp i).heap.size := by omega
    have hc : ((mst4 T k comp i).pushCell (mrow comp 8 (.int 0))).heap[T.heap.size]? = some (mout k T.heap.size i) := by rw [State.heap_pushCell_of_lt (h := hlt)]; exact d
    have h := (Xi.pushed (mrow comp 8 (.int 0))).stored hc i (.ref (mst4 T k comp i).heap.size)
    have e1 : (mrow comp 8 (.int 0)).slots.size = 8 := by simp [mrow]
    have e2 : (locs ++ (List.range (i + 1)).map fun j => (⟨T.heap.size, j⟩ : Loc)) = (locs ++ (List.range i).map fun j => (⟨T.heap.size, j⟩ : Loc)) ++ [⟨T.heap.size, i⟩] := by simp [List.range_succ, List.append_assoc]
    rw [e1] at h
    rw [e2, show slots + 4 + 8 * (i + 1) = slots + 4 + 8 * i + 8 by omega]
    exact h
def va_A2 (U : State) (cA comp : ClassId) : Prop := ∃ (kA kC : Class) (c0 : ClassId), U.vm.findClass "[I" = some comp ∧ U.vm.classes[cA]? = some kA ∧ kA.kind = .array comp (.array .int) ∧ U.vm.findClass "[[I" = some cA ∧ U.vm.classes[comp]? = some kC ∧ kC.kind = .array c0 .int
theorem va_A2.moved {u U : State} (hvm : u.vm.Alike U.vm) {cA comp : ClassId} (h : va_A2 u cA comp) : va_A2 U cA comp := by
  obtain ⟨kA, kC, c0, h1, h2, h3, h4, h5, h6⟩ := h
  obtain ⟨k1, hk1, e1⟩ := hvm.2.2 _ _ h2
  obtain ⟨k2, hk2, e2⟩ := hvm.2.2 _ _ h5
  exact ⟨k1, k2, c0, by rw [hvm.findClass]; exact h1, hk1, by rw [e1]; exact h3, by rw [hvm.findClass]; exact h4, hk2, by rw [e2]; exact h6⟩
theorem va_multi48 (hexec : p.tables.exec = Jvm.exec) (hb : c.code = cc) {own : String} {index : Nat} {cA comp : ClassId} (hown : s.vm.findClass own = some m.cls) (hcl : (Cond.classLink own index "[[I").before args s = true) (hA2 : va_A2 s cA comp) (hcells : cells + 5 ≤ R.cells) (hslots : slots + 36 ≤ R.slots) (hdg : decode cc pc = .ok (.multianewarray index 2, 4))
    (kk : ∀ H1 : Heap, H1.size = H.size + 5 → (∀ q, q < H.size → H1[q]? = H[q]?) → H1[H.size]? = some (mout cA H.size 4) → (∀ j, j < 4 → H1[H.size + 1 + j]? = some (mrow comp 8 (.int 0))) → W p l e R s m args below meth c H1 (locs ++ (List.range 4).map fun j => ⟨H.size, j⟩) (cells + 5) (slots + 36) Q (F0 m (pc + 4) ls (.ref H.size :: rest))) : W p l e R s m args below meth c H locs cells slots Q (F0 m pc ls (.int 8 :: .int 4 :: rest)) := by
  intro T hT X
  subst hT
  have hpl : e.platform.magicAccessors = ({} : Platform).magicAccessors := by rw [X.admits.platform]
  obtain ⟨kA, kC, c0, h1, h2, h3, h4, h5, h6⟩ := hA2
  obtain ⟨c1, hfc, hcl⟩ := Cond.classLink_spec hown hcl e.platform hpl
  cases h4.symm.trans hfc
  obtain ⟨hg₁, hwarm₁, hready₁⟩ := State.classEntry (e := e) X.warmed hcl
  generalize hvm1 : T.vm.noted m.cls index (.cls cA) = vm₁ at hg₁ hwarm₁ hready₁
  have hal : s.vm.Alike vm₁ := hwarm₁.alike
  obtain ⟨k1, hk1, e1⟩ := hal.2.2 _ _ h2
  obtain ⟨k2, hk2, e2⟩ := hal.2.2 _ _ h5
  have X₁ := X.noted hwarm₁
  obtain ⟨hr1, hr2⟩ := X.roomAbove hcells hslots
  have XF := st_four X₁ cA comp 4
  obtain ⟨f1, f2, f3, f4⟩ := mst4_f (T.setVm vm₁) cA comp 4
  obtain ⟨t, a1, b1⟩ := kk (mst4 (T.setVm vm₁) cA comp 4).heap (by rw [f2]; rfl) (fun q hq => mst4_old (T.setVm vm₁) cA comp hq 4) f4 (fun j hj => mst4_row (T.setVm vm₁) cA comp 4 j hj) _ rfl XF
  refine ⟨t, ?_, b1⟩
  jvm_step X.here [hexec, hb, hdg]
  simp only [multianewarray.sem, wp_bind', W.resolveClassAt_links (State.method?_setTop (F0 m pc ls (.int 8 :: .int 4 :: rest)) X.here.top) hg₁]
  rw [W.popN, if_neg (by decide)]
  refine ⟨F0 m pc ls (.int 8 :: .int 4 :: rest), State.topJava?_setTop' (s := T.setVm vm₁) _ X.here.top, [.int 4, .int 8], rest, rfl, rfl, ?_⟩
  simp only [List.mapM_cons, List.mapM_nil, wp_bind', wp_pure']
  refine mu_four (kA := k1) (kc := k2) (comp := comp) (cc := c0) hk1 (by rw [e1]; exact h3) hk2 (by rw [e2]; exact h6) ?_ ?_ ?_ ?_ ?_ ?_ (fun d' acts' => ?_)
  · rw [Launch.admits_arrayLengthLimit X.admits]; decide
  · rw [Launch.admits_maxHeapBytes X.admits]; decide
  · rw [Launch.admits_arrayLengthLimit X.admits]; decide
  · rw [Launch.admits_maxHeapBytes X.admits]; decide
  · show T.heap.size + 5 ≤ _
    omega
  · show T.slotsUsed + 36 ≤ _
    omega
  · have eS : ((T.setTop (F0 m pc ls (.int 8 :: .int 4 :: rest))).setVm vm₁).setTop { F0 m pc ls (.int 8 :: .int 4 :: rest) with stack := rest } = (T.setVm vm₁).setTop { F0 m pc ls (.int 8 :: .int 4 :: rest) with stack := rest } := by
      show ((T.setVm vm₁).setTop (F0 m pc ls (.int 8 :: .int 4 :: rest))).setTop _ = _
      rw [State.setTop_setTop]
    rw [eS, mst4_top]
    simp only [wp_bind', W.mark, W.pushRef, State.topJava?_setTop' _ XF.here.top, Option.some.injEq, exists_eq_left', State.setTop_setTop, State.heap_setTop]
    intro acts
    simp [jvm, XF.here.top]
    exact a1
end MULTI2
