def AB (F : Fam) (n : Nat) : Prop := ∀ x ∈ F.ids, n ≤ F.ad x.1 x.2
def DJ (F F2 : Fam) : Prop := ∀ x ∈ F.ids, ∀ y ∈ F2.ids, F.ad x.1 x.2 ≠ F2.ad y.1 y.2
theorem DJ.symm {F F2 : Fam} (h : DJ F F2) : DJ F2 F := fun x hx y hy e => h y hy x hx e.symm
theorem AB.out {F : Fam} {n q : Nat} (h : AB F n) (hq : q < n) : ¬ fA F n q := by
  rintro (⟨x, hx, e⟩ | z)
  · have := h x hx
    omega
  · omega
theorem AB.of {F : Fam} {n q : Nat} (h : AB F n) (hq : fA F n q) : n ≤ q := by
  rcases hq with ⟨x, hx, e⟩ | z
  · have := h x hx
    omega
  · exact z
section LAWR
variable {p : Program} {l : Launch} {e : Env} {R : Room} {s : State} {m : MethodId} {args : Array Value} {below : List Frame} {meth : Method} {c : Code} {H : Heap} {locs : List Loc} {cells slots : Nat} {Q : State → Prop}
variable {cc : ByteArray} {pc : Nat} {ls : Array Slot} {rest st0 : List Value} {F : Fam} {ct ct1 : Ct} {S : Type} {val : S → Option Value} {ct' : S → Ct}
theorem fC_keep {F F2 : Fam} {ct2 ct1 : Ct} {H H1 : Heap} {locs locs1 : List Loc} {s : State} (hC2 : fC F2 ct2 s.heap H locs) (h1 : fC F ct1 s.heap H1 locs1) (hA1 : AB F s.heap.size) (hA2 : AB F2 s.heap.size) (hJ : DJ F F2) (hk : ∀ q : Nat, q < H.size → ¬ fA F H.size q → H1[q]? = H[q]?) : fC F2 ct2 s.heap H1 locs1 := by
  refine ⟨hC2.1.kept (fun k x hx => ?_), h1.2.1, fun q hq _ => h1.2.2.1 q hq (hA1.out hq), fun x hx => Or.inr (hA1.of (h1.2.2.2 x hx))⟩
  obtain ⟨i, hi, rfl⟩ := fl_inv hx
  have hl : F2.ad i.1 i.2 < H.size := (hC2.1 k _ hx).lt
  refine hk _ hl ?_
  rintro (⟨y, hy, e⟩ | z)
  · exact hJ y hy i (List.mem_of_getElem? hi) e
  · omega
theorem fc_go2 {F2 : Fam} {ct2 : Ct} {a : Array Value} (hr : va_Run p l e R s m args below meth c H locs cells slots 0 0 (F0 m pc ls st0) rest (CQ val (fun u t => fI F (ct' u) t) (fA F H.size) a) (fA F H.size)) (hC : fC F ct s.heap H locs) (hC2 : fC F2 ct2 s.heap H locs) (hA1 : AB F s.heap.size) (hA2 : AB F2 s.heap.size) (hJ : DJ F F2)
    (kk : ∀ (u : S) (H1 : Heap) (locs1 : List Loc), fC F (ct' u) s.heap H1 locs1 → fC F2 ct2 s.heap H1 locs1 → W p l e R s m args below meth c H1 locs1 cells slots Q (F0 m (pc + 3) ls ((val u).toList ++ rest))) : W p l e R s m args below meth c H locs cells slots Q (F0 m pc ls st0) := by
  intro T hT X
  obtain ⟨v, st₀, t, T', L, h0, X', hL, e1, e2, ⟨⟨u, hv, hb⟩, hz, hk⟩, st⟩ := hr T hT X
  cases hv
  rw [h0] at hz hk
  have hs := fA_sub (F := F) hC.2.1
  have hC1 : fC F (ct' u) s.heap T'.heap (locs ++ L) := ⟨by rw [e1]; exact hb.2.1, Nat.le_trans hC.2.1 (by rw [e1]; exact hz), fun q h1 h2 => by rw [e1, hk q (Nat.lt_of_lt_of_le h1 hC.2.1) (fun z => h2 (hs q z))]; exact hC.2.2.1 q h1 h2, fun q hq => by
      rcases List.mem_append.mp hq with h | h
      · exact hC.2.2.2 q h
      · exact hs _ (hL q h)⟩
  obtain ⟨t2, a1, b1⟩ := kk u T'.heap (locs ++ L) hC1 (fC_keep hC2 hC1 hA1 hA2 hJ (fun q h1 h2 => by rw [e1]; exact hk q h1 h2)) T' rfl X'
  exact ⟨t2, st t2 a1, b1⟩
theorem fc_V2 {F2 : Fam} {ct2 : Ct} {own C : String} {index maxL nL : Nat} {y : MethodName} {bytes : ByteArray} {ret : Option FieldType} {rm : Room} {b : Addr} {As : List Value} (hx : p.tables.exec = Jvm.exec) (hb : c.code = cc) (hml : c.maxLocals = nL) (hown : s.vm.findClass own = some m.cls) (hts : ∀ w ∈ lw_all, w.before args s = true) (hX : fX F s) (hC : fC F ct s.heap H locs)
    (hM : Cm l y (ws_ y bytes maxL ret) rm F (.ref b :: As) ct val ct') (hw : GoodIn lw_all (wsV own index C y (ws_ y bytes maxL ret)))
    (hd : y.cls = C ∧ y.cls ≠ "java/lang/invoke/MethodHandle" ∧ y.cls ≠ "java/lang/invoke/VarHandle" ∧ (parseMethodDescriptor y.desc).map (fun d => d.parameters.length) = some As.length) (hrc : rm.cells = 0 ∧ rm.slots = 0) (hR : rm.frames + 1 ≤ R.frames ∧ 8 + (maxL + 11) + rm.locals ≤ R.locals)
    (hbo : ∃ cellB : Cell, H[b]? = some cellB ∧ cellB.vm.isStatics = false ∧ s.vm.findClass C = some cellB.cls) (hsize : ls.size = nL) (hstack : st0 = As.reverse ++ .ref b :: rest) (hW : (rest.map fun v => v.category).sum ≤ 8) (hf : cells ≤ R.cells ∧ slots ≤ R.slots) (hdg : decode cc pc = .ok (.invokevirtual index, 3)) (hC2 : fC F2 ct2 s.heap H locs) (hA1 : AB F s.heap.size) (hA2 : AB F2 s.heap.size) (hJ : DJ F F2)
    (kk : ∀ (u : S) (H1 : Heap) (locs1 : List Loc), fC F (ct' u) s.heap H1 locs1 → fC F2 ct2 s.heap H1 locs1 → W p l e R s m args below meth c H1 locs1 cells slots Q (F0 m (pc + 3) ls ((val u).toList ++ rest))) : W p l e R s m args below meth c H locs cells slots Q (F0 m pc ls st0) :=
  fc_go2 (va_runV ⟨hx, hb, hml, hown, hts⟩ (hM H.size) (cwV As.length hts hw rfl hrc.1 hrc.2 hd hR) ⟨fPc_blind, hbo, fun U hU hW => ⟨rfl, by rw [hU], fI_of hX hC hU hW⟩⟩ rfl rfl hsize hstack (lv_room hW) hdg hf) hC hC2 hA1 hA2 hJ kk
theorem fc_VW2 {F2 : Fam} {ct2 : Ct} {own C : String} {index maxL nL : Nat} {y : MethodName} {bytes : ByteArray} {ret : Option FieldType} {hh : List (Nat × Nat × Nat × Nat)} {rm : Room} {b : Addr} {As : List Value} (hx : p.tables.exec = Jvm.exec) (hb : c.code = cc) (hml : c.maxLocals = nL) (hown : s.vm.findClass own = some m.cls) (hts : ∀ w ∈ lw_all, w.before args s = true) (hX : fX F s) (hC : fC F ct s.heap H locs)
    (hM : Cm l y (wsW_ y bytes maxL ret hh) rm F (.ref b :: As) ct val ct') (hw : GoodIn lw_all (wsV own index C y (wsW_ y bytes maxL ret hh)))
    (hd : y.cls = C ∧ y.cls ≠ "java/lang/invoke/MethodHandle" ∧ y.cls ≠ "java/lang/invoke/VarHandle" ∧ (parseMethodDescriptor y.desc).map (fun d => d.parameters.length) = some As.length) (hrc : rm.cells = 0 ∧ rm.slots = 0) (hR : rm.frames + 1 ≤ R.frames ∧ 8 + (maxL + 11) + rm.locals ≤ R.locals)
    (hbo : ∃ cellB : Cell, H[b]? = some cellB ∧ cellB.vm.isStatics = false ∧ s.vm.findClass C = some cellB.cls) (hsize : ls.size = nL) (hstack : st0 = As.reverse ++ .ref b :: rest) (hW : (rest.map fun v => v.category).sum ≤ 8) (hf : cells ≤ R.cells ∧ slots ≤ R.slots) (hdg : decode cc pc = .ok (.invokevirtual index, 3)) (hC2 : fC F2 ct2 s.heap H locs) (hA1 : AB F s.heap.size) (hA2 : AB F2 s.heap.size) (hJ : DJ F F2)
    (kk : ∀ (u : S) (H1 : Heap) (locs1 : List Loc), fC F (ct' u) s.heap H1 locs1 → fC F2 ct2 s.heap H1 locs1 → W p l e R s m args below meth c H1 locs1 cells slots Q (F0 m (pc + 3) ls ((val u).toList ++ rest))) : W p l e R s m args below meth c H locs cells slots Q (F0 m pc ls st0) := by
  refine fc_go2 (a := (Value.ref b :: As).toArray) ?_ hC hC2 hA1 hA2 hJ kk
  have hG : ∀ w ∈ wsW_ y bytes maxL ret hh, w ∈ lw_all ∧ ((w.onTables && w.keeps) = true ∨ ∃ ty, w = .arrayClass ty) := fun w h => hw w (List.mem_append_right _ h)
  have m1 : Cond.methodLink own index y ∈ wsV own index C y (wsW_ y bytes maxL ret hh) := List.mem_append_left _ (by simp)
  have m2 : Cond.instanceMethod y ∈ wsV own index C y (wsW_ y bytes maxL ret hh) := List.mem_append_left _ (by simp)
  have m3 : Cond.selects C y y ∈ wsV own index C y (wsW_ y bytes maxL ret hh) := List.mem_append_left _ (by simp)
  have m4 : Cond.initialized C ∈ wsV own index C y (wsW_ y bytes maxL ret hh) := List.mem_append_left _ (by simp)
  have hlink := hts _ (hw _ m1).1
  have hinst := hts _ (hw _ m2).1
  have hsel := hts _ (hw _ m3).1
  have hcode := hts _ (hG _ List.mem_cons_self).1
  have hK : Back l R p e below s args y 3 8 (PreOf R 0 0 (va_Pc (.ref b :: As) (fun U => U.heap.size = H.size ∧ fI F ct U))) (PostOf (CQ val (fun u t => fI F (ct' u) t) (fA F H.size)) 0 0 (fA F H.size)) :=
    va_backW (hM H.size) fPc_blind hrc.1 hrc.2 hR.1 hR.2 (fun w h a' U hW => word_at hW (hG w h).2 (hts w (hG w h).1)) List.mem_cons_self (fun a' U hW => by rw [hd.1]; exact word_at hW (hw _ m4).2 (hts _ (hw _ m4).1))
  have hy : y.cls ≠ "java/lang/invoke/MethodHandle" ∧ y.cls ≠ "java/lang/invoke/VarHandle" := ⟨hd.2.1, hd.2.2.1⟩
  obtain ⟨cellB, hcB, hoB, hclB⟩ := hbo
  intro T hT X
  obtain ⟨mk, methM, hnamed, hmethM, hstM, habM⟩ := Cond.instanceMethod_spec hinst
  obtain ⟨mk', methM', cM, hnamed', hmethM', -, -, -, -, -, -, hsigM⟩ := Cond.codeWith_spec hcode
  cases hnamed.symm.trans hnamed'
  cases hmethM.symm.trans hmethM'
  obtain ⟨c2, r2, m2', q1, q2, q3, q4, kP, hkP, hkPi⟩ := Cond.selects_spec hsel
  cases hclB.symm.trans q1
  cases (State.methodFound?_of_named hnamed hy).symm.trans q2
  cases hnamed.symm.trans q3
  have hselP : selectMethod e.platform s.vm cellB.cls mk = .method mk := by rw [Launch.admits_selectMethod X.admits]; exact q4
  have hlen : As.length = methM.sig.parameters.length := by
    have := hd.2.2.2
    rw [hsigM] at this
    exact (Option.some.inj this).symm
  obtain ⟨vm₁, X₁, hstep₁⟩ := X.invokevirtual hx hown hlink hnamed hmethM hstM hkP hkPi hy (a := b) (cell := cellB) (by rw [hT]; exact hcB)
    (fun z h => by rw [h] at hoB; cases hoB) hselP hmethM habM hkP hkPi (g := F0 m pc ls st0) rfl (argsL := As) (rest := rest) hlen hstack (by rw [hb]; exact hdg)
  obtain ⟨v, ⟨U', l2, c2, s2⟩, X', ⟨g', mk2, t, L, e1, e2, hq, h1, hL, h2, h3⟩, hsteps⟩ := hK m meth c ⟨T.setVm vm₁, locs, cells, slots⟩ { (F0 m pc ls st0) with stack := rest } (.invokevirtual index) mk (Value.ref b :: As).toArray X₁ rfl (hsize.trans hml.symm) (by rw [hb]; exact hdg) (lv_room hW) (X₁.named hnamed) ⟨hf.1, hf.2, rfl, by show T.heap.size = _; rw [hT], fI_of hX hC (U := T.setVm vm₁) hT X₁.warmed⟩
  dsimp only [Pt.U, Pt.locs, Pt.cells, Pt.slots] at X' e1 e2 h1 h2 h3 hsteps
  subst h1; subst h2; subst h3
  exact ⟨v, (T.setVm vm₁).calling g' mk2 (Value.ref b :: As).toArray, t, U', L, hT, X', hL, e1, e2, hq, fun target h => hstep₁ _ fun acts => by rw [doInvoke_state]; exact hsteps.trans h⟩
end LAWR
