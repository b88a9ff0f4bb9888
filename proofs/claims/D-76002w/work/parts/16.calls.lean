theorem Cm.startW {S : Type} {l : Launch} {y : MethodName} {b : ByteArray} {L : Nat} {ret : Option FieldType} {hh : List (Nat × Nat × Nat × Nat)} {rm : Room} {F : Fam} {av : List Value} {ct : Ct} {val : S → Option Value} {ct' : S → Ct} (hy : plainName y.cls = true) (hL : (lg_sl av).length ≤ L)
    (body : ∀ (p : Program) (e : Env) (s : State) (m : MethodId) (below : List Frame) (meth : Method) (c : Code), Fx p s m meth c b L ret av.toArray y.cls → fX F s → fC F ct s.heap s.heap [] → ∀ ls : Array Slot, lv_has ls L (lv_args 0 av) → WG p l e rm s m av.toArray below meth c s.heap [] F val ct' (F0 m 0 ls [])) : Cm l y (wsW_ y b L ret hh) rm F av ct val ct' := by
  intro sz
  refine va_MetW (cc := b) (maxL := L) (ret := ret) (hh := hh) hy rfl ?_
  intro p e s m args below meth c s₁ B hml hv
  obtain ⟨rfl, hsz, hok, hP, hK, hE⟩ := hv
  subst hsz
  have hts := atoms_spec (ws := wsW_ y b L ret hh) B.pre
  have hts : ∀ w ∈ lw_all, w.before _ s = true := fun w h => hts w (List.mem_cons_of_mem _ h)
  rw [lg_entry_eq]
  exact body p e s m below meth c ⟨B.exec, B.bytes, B.returns, hml, findClass_of_methodNamed B.named, hts, B.notSynchronized⟩ ⟨hok, hK, hE⟩ ⟨hP, va_S.rf⟩ _ (lv_entry av hL)
section FCALL
variable {p : Program} {l : Launch} {e : Env} {R : Room} {s : State} {m : MethodId} {args : Array Value} {below : List Frame} {meth : Method} {c : Code} {H : Heap} {locs : List Loc} {cells slots : Nat} {Q : State → Prop}
variable {cc : ByteArray} {pc : Nat} {ls : Array Slot} {rest st0 : List Value} {F : Fam} {ct ct1 : Ct} {S : Type} {val : S → Option Value} {ct' : S → Ct}
theorem fc_VW {own C : String} {index maxL nL : Nat} {y : MethodName} {bytes : ByteArray} {ret : Option FieldType} {hh : List (Nat × Nat × Nat × Nat)} {rm : Room} {b : Addr} {As : List Value} (hx : p.tables.exec = Jvm.exec) (hb : c.code = cc) (hml : c.maxLocals = nL) (hown : s.vm.findClass own = some m.cls) (hts : ∀ w ∈ lw_all, w.before args s = true) (hX : fX F s) (hC : fC F ct s.heap H locs)
    (hM : Cm l y (wsW_ y bytes maxL ret hh) rm F (.ref b :: As) ct val ct') (hw : GoodIn lw_all (wsV own index C y (wsW_ y bytes maxL ret hh)))
    (hd : y.cls = C ∧ y.cls ≠ "java/lang/invoke/MethodHandle" ∧ y.cls ≠ "java/lang/invoke/VarHandle" ∧ (parseMethodDescriptor y.desc).map (fun d => d.parameters.length) = some As.length) (hrc : rm.cells = 0 ∧ rm.slots = 0) (hR : rm.frames + 1 ≤ R.frames ∧ 8 + (maxL + 11) + rm.locals ≤ R.locals)
    (hbo : ∃ cellB : Cell, H[b]? = some cellB ∧ cellB.vm.isStatics = false ∧ s.vm.findClass C = some cellB.cls) (hsize : ls.size = nL) (hstack : st0 = As.reverse ++ .ref b :: rest) (hW : (rest.map fun v => v.category).sum ≤ 8) (hf : cells ≤ R.cells ∧ slots ≤ R.slots) (hdg : decode cc pc = .ok (.invokevirtual index, 3))
    (kk : ∀ (u : S) (H1 : Heap) (locs1 : List Loc), fC F (ct' u) s.heap H1 locs1 → W p l e R s m args below meth c H1 locs1 cells slots Q (F0 m (pc + 3) ls ((val u).toList ++ rest))) : W p l e R s m args below meth c H locs cells slots Q (F0 m pc ls st0) := by
  refine fc_go (a := (Value.ref b :: As).toArray) ?_ hC kk
  have hG : ∀ w ∈ wsW_ y bytes maxL ret hh, w ∈ lw_all ∧ ((w.onTables && w.keeps) = true ∨ ∃ ty, w = .arrayClass ty) := fun w h => hw w (List.mem_append_right _ h)
  have m1 : Cond.methodLink own index y ∈ wsV own index C y (wsW_ y bytes maxL ret hh) := List.mem_append_left _ (by simp)
  have m2 : Cond.instanceMethod y ∈ wsV own index C y (wsW_ y bytes maxL ret hh) := List.mem_append_left _ (by simp)
  have m3 : Cond.selects C y y ∈ wsV own index C y (wsW_ y bytes maxL ret hh) := List.mem_append_left _ (by simp)
  have m4 : Cond.initialized C ∈ wsV own index C y (wsW_ y bytes maxL ret hh) := List.mem_append_left _ (by simp)
  have hlink := hts _ (hw _ m1).1
  have hinst := hts _ (hw _ m2).1
  have hsel := hts _ (hw _ m3).1
  have hcode := hts _ (hG _ List.mem_cons_self).1
  have hK : Back l R p e below s args y 3 8 (PreOf R 0 0 (va_Pc (.ref b :: As) (fun U => U.heap.size = H.size ∧ fI F ct U))) (PostOf (CQ val (fun u t => fI F (ct' u) t) (fA F H.size)) 0 0 (fA F H.size)) :=
    va_backW (hM H.size) fPc_blind hrc.1 hrc.2 hR.1 hR.2 (fun w h a' U hW => word_at hW (hG w h).2 (hts w (hG w h).1)) List.mem_cons_self (fun a' U hW => by rw [hd.1]; exact word_at hW (hw _ m4).2 (hts _ (hw _ m4).1))
  have hy : y.cls ≠ "java/lang/invoke/MethodHandle" ∧ y.cls ≠ "java/lang/invoke/VarHandle" := ⟨hd.2.1, hd.2.2.1⟩
  obtain ⟨cellB, hcB, hoB, hclB⟩ := hbo
  intro T hT X
  obtain ⟨mk, methM, hnamed, hmethM, hstM, habM⟩ := Cond.instanceMethod_spec hinst
  obtain ⟨mk', methM', cM, hnamed', hmethM', -, -, -, -, -, -, hsigM⟩ := Cond.codeWith_spec hcode
  cases hnamed.symm.trans hnamed'
  cases hmethM.symm.trans hmethM'
  obtain ⟨c2, r2, m2', q1, q2, q3, q4, kP, hkP, hkPi⟩ := Cond.selects_spec hsel
  cases hclB.symm.trans q1
  cases (State.methodFound?_of_named hnamed hy).symm.trans q2
  cases hnamed.symm.trans q3
  have hselP : selectMethod e.platform s.vm cellB.cls mk = .method mk := by rw [Launch.admits_selectMethod X.admits]; exact q4
  have hlen : As.length = methM.sig.parameters.length := by
    have := hd.2.2.2
    rw [hsigM] at this
    exact (Option.some.inj this).symm
  obtain ⟨vm₁, X₁, hstep₁⟩ := X.invokevirtual hx hown hlink hnamed hmethM hstM hkP hkPi hy (a := b) (cell := cellB) (by rw [hT]; exact hcB)
    (fun z h => by rw [h] at hoB; cases hoB) hselP hmethM habM hkP hkPi (g := F0 m pc ls st0) rfl (argsL := As) (rest := rest) hlen hstack (by rw [hb]; exact hdg)
  obtain ⟨v, ⟨U', l2, c2, s2⟩, X', ⟨g', mk2, t, L, e1, e2, hq, h1, hL, h2, h3⟩, hsteps⟩ := hK m meth c ⟨T.setVm vm₁, locs, cells, slots⟩ { (F0 m pc ls st0) with stack := rest } (.invokevirtual index) mk (Value.ref b :: As).toArray X₁ rfl (hsize.trans hml.symm) (by rw [hb]; exact hdg) (lv_room hW) (X₁.named hnamed) ⟨hf.1, hf.2, rfl, by show T.heap.size = _; rw [hT], fI_of hX hC (U := T.setVm vm₁) hT X₁.warmed⟩
  dsimp only [Pt.U, Pt.locs, Pt.cells, Pt.slots] at X' e1 e2 h1 h2 h3 hsteps
  subst h1; subst h2; subst h3
  exact ⟨v, (T.setVm vm₁).calling g' mk2 (Value.ref b :: As).toArray, t, U', L, hT, X', hL, e1, e2, hq, fun target h => hstep₁ _ fun acts => by rw [doInvoke_state]; exact hsteps.trans h⟩
theorem fc_U {own C owner : String} {index maxL nL : Nat} {x y : MethodName} {bytes : ByteArray} {ret : Option FieldType} {rm : Room} {b : Addr} {As : List Value} (hx : p.tables.exec = Jvm.exec) (hb : c.code = cc) (hml : c.maxLocals = nL) (hown : s.vm.findClass own = some m.cls) (hts : ∀ w ∈ lw_all, w.before args s = true) (hX : fX F s) (hC : fC F ct s.heap H locs)
    (hM : Cm l y (ws_ y bytes maxL ret) rm F (.ref b :: As) ct val ct') (hw : ∀ w ∈ ([.methodLink own index x, .sameMethod x.cls owner x.name x.desc, .selects C x y, .instanceMethod y, .initialized y.cls] : List Cond), w ∈ lw_all) (hcode : Cond.code y bytes maxL ret ∈ lw_all) (hyx : y = ⟨owner, x.name, x.desc⟩)
    (hd : owner ≠ "java/lang/invoke/MethodHandle" ∧ owner ≠ "java/lang/invoke/VarHandle" ∧ (parseMethodDescriptor x.desc).map (fun d => d.parameters.length) = some As.length) (hrc : rm.cells = 0 ∧ rm.slots = 0) (hR : rm.frames + 1 ≤ R.frames ∧ 8 + (maxL + 11) + rm.locals ≤ R.locals)
    (hbo : ∃ cellB : Cell, H[b]? = some cellB ∧ cellB.vm.isStatics = false ∧ s.vm.findClass C = some cellB.cls) (hsize : ls.size = nL) (hstack : st0 = As.reverse ++ .ref b :: rest) (hW : (rest.map fun v => v.category).sum ≤ 8) (hf : cells ≤ R.cells ∧ slots ≤ R.slots) (hdg : decode cc pc = .ok (.invokevirtual index, 3))
    (kk : ∀ (u : S) (H1 : Heap) (locs1 : List Loc), fC F (ct' u) s.heap H1 locs1 → W p l e R s m args below meth c H1 locs1 cells slots Q (F0 m (pc + 3) ls ((val u).toList ++ rest))) : W p l e R s m args below meth c H locs cells slots Q (F0 m pc ls st0) :=
  fc_go (va_runU ⟨hx, hb, hml, hown, hts⟩ (hM H.size) (va_cwU As.length hts (lw_app hw (lw_meth hcode)) rfl hrc.1 hrc.2 hyx hd hR) ⟨fPc_blind, hbo, fun U hU hW => ⟨rfl, by rw [hU], fI_of hX hC hU hW⟩⟩ rfl rfl hsize hstack (lv_room hW) hdg hf) hC kk
theorem fc_O {own C owner : String} {index maxL nL m0 : Nat} {x y : MethodName} {bytes b0 : ByteArray} {ret r0 : Option FieldType} {rm : Room} {b : Addr} {As : List Value} (hx : p.tables.exec = Jvm.exec) (hb : c.code = cc) (hml : c.maxLocals = nL) (hown : s.vm.findClass own = some m.cls) (hts : ∀ w ∈ lw_all, w.before args s = true) (hX : fX F s) (hC : fC F ct s.heap H locs)
    (hM : Cm l y (ws_ y bytes maxL ret) rm F (.ref b :: As) ct val ct') (hw : ∀ w ∈ ([.methodLink own index x, .sameMethod x.cls owner x.name x.desc, .instanceMethod ⟨owner, x.name, x.desc⟩, .selects C x y, .instanceMethod y, .initialized y.cls] : List Cond), w ∈ lw_all) (hcode : Cond.code y bytes maxL ret ∈ lw_all) (h0 : Cond.code ⟨owner, x.name, x.desc⟩ b0 m0 r0 ∈ lw_all)
    (hd : owner ≠ "java/lang/invoke/MethodHandle" ∧ owner ≠ "java/lang/invoke/VarHandle" ∧ (parseMethodDescriptor x.desc).map (fun d => d.parameters.length) = some As.length) (hrc : rm.cells = 0 ∧ rm.slots = 0) (hR : rm.frames + 1 ≤ R.frames ∧ 8 + (maxL + 11) + rm.locals ≤ R.locals)
    (hbo : ∃ cellB : Cell, H[b]? = some cellB ∧ cellB.vm.isStatics = false ∧ s.vm.findClass C = some cellB.cls) (hsize : ls.size = nL) (hstack : st0 = As.reverse ++ .ref b :: rest) (hW : (rest.map fun v => v.category).sum ≤ 8) (hf : cells ≤ R.cells ∧ slots ≤ R.slots) (hdg : decode cc pc = .ok (.invokevirtual index, 3))
    (kk : ∀ (u : S) (H1 : Heap) (locs1 : List Loc), fC F (ct' u) s.heap H1 locs1 → W p l e R s m args below meth c H1 locs1 cells slots Q (F0 m (pc + 3) ls ((val u).toList ++ rest))) : W p l e R s m args below meth c H locs cells slots Q (F0 m pc ls st0) :=
  fc_go (va_runU ⟨hx, hb, hml, hown, hts⟩ (hM H.size) (va_cwO As.length hts (lw_app hw (lw_meth hcode)) rfl hrc.1 hrc.2 h0 hd hR) ⟨fPc_blind, hbo, fun U hU hW => ⟨rfl, by rw [hU], fI_of hX hC hU hW⟩⟩ rfl rfl hsize hstack (lv_room hW) hdg hf) hC kk
theorem fc_SU {own C : String} {cC : ClassId} {index maxL nL : Nat} {y : MethodName} {bytes : ByteArray} {ret : Option FieldType} {rm : Room} {b : Addr} {As : List Value} (hat : ClassAt s C cC) (hx : p.tables.exec = Jvm.exec) (hb : c.code = cc) (hml : c.maxLocals = nL) (hown : s.vm.findClass own = some m.cls) (hts : ∀ w ∈ lw_all, w.before args s = true) (hX : fX F s) (hC : fC F ct s.heap H locs)
    (hM : Cm l y (ws_ y bytes maxL ret) rm F (.ref b :: As) ct val ct') (hw : ∀ w ∈ ([.methodLink own index y, .sameMethod y.cls y.cls y.name y.desc, .superclass own y.cls, .instanceMethod y, .initialized y.cls] : List Cond), w ∈ lw_all) (hcode : Cond.code y bytes maxL ret ∈ lw_all)
    (hd : y.name ≠ "<init>" ∧ (parseMethodDescriptor y.desc).map (fun d => d.parameters.length) = some As.length) (hrc : rm.cells = 0 ∧ rm.slots = 0) (hR : rm.frames + 1 ≤ R.frames ∧ 8 + (maxL + 11) + rm.locals ≤ R.locals)
    (hbo : ∃ cellB : Cell, H[b]? = some cellB ∧ cellB.vm.isStatics = false ∧ s.vm.findClass C = some cellB.cls) (hsize : ls.size = nL) (hstack : st0 = As.reverse ++ .ref b :: rest) (hW : (rest.map fun v => v.category).sum ≤ 8) (hf : cells ≤ R.cells ∧ slots ≤ R.slots) (hdg : decode cc pc = .ok (.invokespecial index, 3))
    (kk : ∀ (u : S) (H1 : Heap) (locs1 : List Loc), fC F (ct' u) s.heap H1 locs1 → W p l e R s m args below meth c H1 locs1 cells slots Q (F0 m (pc + 3) ls ((val u).toList ++ rest))) : W p l e R s m args below meth c H locs cells slots Q (F0 m pc ls st0) :=
  fc_go (va_runSU hat ⟨hx, hb, hml, hown, hts⟩ (hM H.size) (va_cwSU As.length hts (lw_app hw (lw_meth hcode)) rfl hrc.1 hrc.2 hd hR) ⟨fPc_blind, hbo, fun U hU hW => ⟨rfl, by rw [hU], fI_of hX hC hU hW⟩⟩ rfl rfl hsize hstack (lv_room hW) hdg hf) hC kk
theorem fc_go5 {a : Array Value} (hr : va_Run5 p l e R s m args below meth c H locs cells slots 0 0 (F0 m pc ls st0) rest (CQ val (fun u t => fI F (ct' u) t) (fA F H.size) a) (fA F H.size)) (hC : fC F ct s.heap H locs)
    (kk : ∀ (u : S) (H1 : Heap) (locs1 : List Loc), fC F (ct' u) s.heap H1 locs1 → W p l e R s m args below meth c H1 locs1 cells slots Q (F0 m (pc + 5) ls ((val u).toList ++ rest))) : W p l e R s m args below meth c H locs cells slots Q (F0 m pc ls st0) := by
  intro T hT X
  obtain ⟨v, st₀, t, T', L, h0, X', hL, e1, e2, ⟨⟨u, hv, hb⟩, hz, hk⟩, st⟩ := hr T hT X
  cases hv
  rw [h0] at hz hk
  have hs := fA_sub (F := F) hC.2.1
  obtain ⟨t2, a1, b1⟩ := kk u T'.heap (locs ++ L) ⟨by rw [e1]; exact hb.2.1, Nat.le_trans hC.2.1 (by rw [e1]; exact hz), fun q h1 h2 => by rw [e1, hk q (Nat.lt_of_lt_of_le h1 hC.2.1) (fun z => h2 (hs q z))]; exact hC.2.2.1 q h1 h2, fun q hq => by
      rcases List.mem_append.mp hq with h | h
      · exact hC.2.2.2 q h
      · exact hs _ (hL q h)⟩ T' rfl X'
  exact ⟨t2, st t2 a1, b1⟩
theorem fc_F {own C : String} {cC : ClassId} {index count maxL nL : Nat} {x y : MethodName} {bytes : ByteArray} {ret : Option FieldType} {rm : Room} {b : Addr} {As : List Value} (hat : ClassAt s C cC) (hx : p.tables.exec = Jvm.exec) (hb : c.code = cc) (hml : c.maxLocals = nL) (hown : s.vm.findClass own = some m.cls) (hts : ∀ w ∈ lw_all, w.before args s = true) (hX : fX F s) (hC : fC F ct s.heap H locs)
    (hM : Cm l y (ws_ y bytes maxL ret) rm F (.ref b :: As) ct val ct') (hw : ∀ w ∈ ([.methodLink own index x, .selects C x y, .instanceMethod y, .initialized y.cls] : List Cond), w ∈ lw_all) (hcode : Cond.code y bytes maxL ret ∈ lw_all) (hF : va_Fw C x y s)
    (hd : x.cls ≠ "java/lang/invoke/MethodHandle" ∧ x.cls ≠ "java/lang/invoke/VarHandle" ∧ (parseMethodDescriptor x.desc).map (fun d => d.parameters.length) = some As.length) (hrc : rm.cells = 0 ∧ rm.slots = 0) (hR : rm.frames + 1 ≤ R.frames ∧ 8 + (maxL + 11) + rm.locals ≤ R.locals)
    (hbo : ∃ cellB : Cell, H[b]? = some cellB ∧ cellB.vm.isStatics = false ∧ s.vm.findClass C = some cellB.cls) (hsize : ls.size = nL) (hstack : st0 = As.reverse ++ .ref b :: rest) (hW : (rest.map fun v => v.category).sum ≤ 8) (hf : cells ≤ R.cells ∧ slots ≤ R.slots) (hdg : decode cc pc = .ok (.invokeinterface index count, 5))
    (kk : ∀ (u : S) (H1 : Heap) (locs1 : List Loc), fC F (ct' u) s.heap H1 locs1 → W p l e R s m args below meth c H1 locs1 cells slots Q (F0 m (pc + 5) ls ((val u).toList ++ rest))) : W p l e R s m args below meth c H locs cells slots Q (F0 m pc ls st0) :=
  fc_go5 (va_runF hat ⟨hx, hb, hml, hown, hts⟩ (hM H.size) (va_cwF As.length hts (lw_app hw (lw_meth hcode)) rfl hrc.1 hrc.2 hF hd hR) ⟨fPc_blind, hbo, fun U hU hW => ⟨rfl, by rw [hU], fI_of hX hC hU hW⟩⟩ rfl rfl hsize hstack (lv_room hW) hdg hf) hC kk
end FCALL
