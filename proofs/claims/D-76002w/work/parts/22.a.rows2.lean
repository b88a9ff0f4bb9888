theorem fx_at {F : Fam} {s : State} {ci : Nat} {q : vw_C} (hX : fX F s) (hc : F.cl[ci]? = some q) : ∃ cC, ClassAt s q.1 cC := ⟨_, (hX.2.1.1 ci q hc).2⟩
theorem TB.C {adK : Nat → Nat} {U : State} (h : TB adK U) {a b : String} (hw : Cond.castable a b ∈ lw_tbl) : va_Nw (.castable a b) U := by
  obtain ⟨s0, b0, h1, h2, -⟩ := h
  exact va_Nw.warmC h1 (va_Nw.of rfl (h2 _ hw))
theorem TB.N {adK : Nat → Nat} {U : State} (h : TB adK U) {a b : String} (hw : (Cond.not (.castable a b)) ∈ flatC (Jvm.Cond.and given_1 narrow_1)) : va_Nc a b U := by
  obtain ⟨s0, b0, h1, -, h3, -⟩ := h
  exact va_Nc.moved h1.alike (va_Nc.of (flat_of_before _ h3 _ hw))
theorem TB.Fw {adK : Nat → Nat} {U : State} (h : TB adK U) {C : String} {x y : MethodName} (hx : x.cls ≠ "java/lang/invoke/MethodHandle" ∧ x.cls ≠ "java/lang/invoke/VarHandle") (h1 : Cond.declares x ∈ lw_tbl) (h2 : Cond.interfaceMethod x.cls x.cls x.name x.desc ∈ lw_tbl) (h3 : Cond.publicMethod y ∈ lw_tbl) (h4 : Cond.unhidden C x.name x.desc ∈ lw_tbl) (h5 : Cond.castable C x.cls ∈ lw_tbl) : va_Fw C x y U := by
  obtain ⟨s0, b0, g1, g2, -⟩ := h
  exact va_Fw.moved hx g1.alike (va_Fw.of (g2 _ h1) (g2 _ h2) (g2 _ h3) (g2 _ h4) (g2 _ h5))
theorem fx_at' {F : Fam} {s : State} {ci : Nat} {q : vw_C} (hX : fX F s) (hc : F.cl[ci]? = some q) : u_Kn s q.1 q.2.1 q.2.2 (F.D.1 ci) (F.D.2 ci) := hX.2.1.1 ci q hc
section FSU
variable {p : Program} {l : Launch} {e : Env} {R : Room} {s : State} {m : MethodId} {args : Array Value} {below : List Frame} {meth : Method} {c : Code} {H : Heap} {locs : List Loc} {cells slots : Nat} {Q : State → Prop}
variable {cc : ByteArray} {pc : Nat} {ls : Array Slot} {rest st0 : List Value} {F : Fam} {ct ct1 : Ct} {S : Type} {val : S → Option Value} {ct' : S → Ct}
theorem fc_SU2 {own C : String} {cC : ClassId} {index maxL nL : Nat} {x y : MethodName} {bytes : ByteArray} {ret : Option FieldType} {rm : Room} {b : Addr} {As : List Value} (hat : ClassAt s C cC) (hx : p.tables.exec = Jvm.exec) (hb : c.code = cc) (hml : c.maxLocals = nL) (hown : s.vm.findClass own = some m.cls) (hts : ∀ w ∈ lw_all, w.before args s = true) (hX : fX F s) (hC : fC F ct s.heap H locs)
    (hM : Cm l y (ws_ y bytes maxL ret) rm F (.ref b :: As) ct val ct') (hw : ∀ w ∈ ([.methodLink own index x, .sameMethod x.cls y.cls x.name x.desc, .superclass own x.cls, .superclass x.cls y.cls, .instanceMethod y, .initialized y.cls] : List Cond), w ∈ lw_all) (hcode : Cond.code y bytes maxL ret ∈ lw_all) (hyx : y = ⟨y.cls, x.name, x.desc⟩)
    (hd : x.name ≠ "<init>" ∧ (parseMethodDescriptor x.desc).map (fun d => d.parameters.length) = some As.length) (hrc : rm.cells = 0 ∧ rm.slots = 0) (hR : rm.frames + 1 ≤ R.frames ∧ 8 + (maxL + 11) + rm.locals ≤ R.locals)
    (hbo : ∃ cellB : Cell, H[b]? = some cellB ∧ cellB.vm.isStatics = false ∧ s.vm.findClass C = some cellB.cls) (hsize : ls.size = nL) (hstack : st0 = As.reverse ++ .ref b :: rest) (hW : (rest.map fun v => v.category).sum ≤ 8) (hf : cells ≤ R.cells ∧ slots ≤ R.slots) (hdg : decode cc pc = .ok (.invokespecial index, 3))
    (kk : ∀ (u : S) (H1 : Heap) (locs1 : List Loc), fC F (ct' u) s.heap H1 locs1 → W p l e R s m args below meth c H1 locs1 cells slots Q (F0 m (pc + 3) ls ((val u).toList ++ rest))) : W p l e R s m args below meth c H locs cells slots Q (F0 m pc ls st0) := by
  refine fc_go (a := (Value.ref b :: As).toArray) ?_ hC kk
  have hlink := hts _ (hw (.methodLink own index x) (by simp))
  have hsame := hts _ (hw (.sameMethod x.cls y.cls x.name x.desc) (by simp))
  have hsup := hts _ (hw (.superclass own x.cls) (by simp))
  have hsup2 := hts _ (hw (.superclass x.cls y.cls) (by simp))
  have hinst := hts _ (hw (.instanceMethod y) (by simp))
  have hini := hts _ (hw (.initialized y.cls) (by simp))
  have hG := lw_meth hcode
  have hK : Back l R p e below s args y 3 8 (PreOf R 0 0 (va_Pc (.ref b :: As) (fun U => U.heap.size = H.size ∧ fI F ct U))) (PostOf (CQ val (fun u t => fI F (ct' u) t) (fA F H.size)) 0 0 (fA F H.size)) :=
    back_of (bytes := bytes) (maxL := maxL) (ret := ret) (hM H.size) fPc_blind hrc.1 hrc.2 hR.1 hR.2 (fun w h a' U hW => word_at hW (hG w h).2 (hts w (hG w h).1)) List.mem_cons_self (fun a' U hW => word_at hW (Or.inl (by first | rfl | simp [Cond.onTables, Cond.keeps, Cond.steady])) hini)
  obtain ⟨cellB, hcB, hoB, hclB⟩ := hbo
  obtain ⟨hfc, kB, hkB, -⟩ := hat
  cases hfc.symm.trans hclB
  obtain ⟨mk, methM, hnamed, hmethM, hstM, habM⟩ := Cond.instanceMethod_spec hinst
  obtain ⟨methM', cM, hmethM', -, -, -, -, -, -, hsigM⟩ := Cond.code_spec hnamed (hts _ hcode)
  cases hmethM.symm.trans hmethM'
  obtain ⟨ps, dk, kp, hps, hdk, hkp, hsuper, -, -, hnid⟩ := Cond.superclass_spec hown hsup
  obtain ⟨ps2, dk2, kp2, hps2, hdk2, hkp2, hsuper2, -⟩ := Cond.superclass_spec hps hsup2
  have hn : s.methodNamed? ⟨y.cls, x.name, x.desc⟩ = some mk := by rw [← hyx]; exact hnamed
  have hpm : ps2 = mk.cls := Option.some.inj (hps2.symm.trans (findClass_of_methodNamed hnamed))
  have hsub : s.vm.isSubclass ps mk.cls = true := by
    rw [← hpm]
    simp only [Vm.isSubclass, Vm.isSubclassAux, hdk2, hsuper2, Bool.or_eq_true, beq_iff_eq]
    refine Or.inr ?_
    have hlt := (Array.getElem?_eq_some_iff.mp hdk2).1
    cases hsz : s.vm.classes.size with
    | zero => omega
    | succ n => simp [Vm.isSubclassAux]
  have hlen : As.length = methM.sig.parameters.length := by
    have h1 : parseMethodDescriptor x.desc = some methM.sig := by
      have h0 : y.desc = (⟨y.cls, x.name, x.desc⟩ : MethodName).desc := congrArg (fun z : MethodName => z.desc) hyx
      have : y.desc = x.desc := h0
      rw [← this]; exact hsigM
    have := hd.2
    rw [h1] at this
    exact (Option.some.inj this).symm
  intro T hT X
  obtain ⟨vm₁, X₁, hstep₁⟩ := X.invokespecialUp hx hown hlink hsame hn hmethM hstM habM hd.1 hdk hnid hps hsuper hsub (a := b) (cell := cellB) (by rw [hT]; exact hcB)
    (fun z h => by rw [h] at hoB; cases hoB) hkB (g := F0 m pc ls st0) rfl (argsL := As) (rest := rest) hlen hstack (by rw [hb]; exact hdg)
  obtain ⟨v, ⟨U', l2, c2, s2⟩, X', ⟨g', mk2, t, L, e1, e2, hq, h1, hL, h2, h3⟩, hsteps⟩ := hK m meth c ⟨T.setVm vm₁, locs, cells, slots⟩ { (F0 m pc ls st0) with stack := rest } (.invokespecial index) mk (Value.ref b :: As).toArray X₁ rfl (hsize.trans hml.symm) (by rw [hb]; exact hdg) (lv_room hW) (X₁.named hnamed) ⟨hf.1, hf.2, rfl, by show T.heap.size = _; rw [hT], fI_of hX hC (U := T.setVm vm₁) hT X₁.warmed⟩
  dsimp only [Pt.U, Pt.locs, Pt.cells, Pt.slots] at X' e1 e2 h1 h2 h3 hsteps
  subst h1; subst h2; subst h3
  exact ⟨v, (T.setVm vm₁).calling g' mk2 (Value.ref b :: As).toArray, t, U', L, hT, X', hL, e1, e2, hq, fun target h => hstep₁ _ (by rw [doInvoke_state]; exact hsteps.trans h)⟩
end FSU
theorem ak_any {vm vm' : Vm} (h : vm.Alike vm') (f : Class → Bool) (hf : ∀ k : Class, f k.bare = f k) (c : ClassId) : (vm'.classes[c]?).any f = (vm.classes[c]?).any f := by
  cases hk : vm.classes[c]? with
  | none => rw [h.none hk]
  | some k =>
    obtain ⟨k', hk', he⟩ := h.2.2 _ _ hk
    rw [hk']
    show f k' = f k
    rw [← hf k', Class.bare_of he, hf]
theorem ak_near {vm vm' : Vm} (h : vm.Alike vm') (c : ClassId) (name desc : String) : nearestHeld vm' c name desc = nearestHeld vm c name desc := by
  have e1 : superinterfaceMethods vm' = superinterfaceMethods vm := by rw [← superinterfaceMethods_bare vm', h.bare_eq, superinterfaceMethods_bare]
  have e2 : maximallySpecific vm' = maximallySpecific vm := by rw [← maximallySpecific_bare vm', h.bare_eq, maximallySpecific_bare]
  have e3 : ∀ k : ClassId, (vm'.classes[k]?).any (·.isInterface) = (vm.classes[k]?).any (·.isInterface) := ak_any h _ fun _ => rfl
  have e4 : ∀ k : ClassId, ((vm'.classes[k]?).any fun x => x.methods.any fun m => !m.isAbstract && !m.isStatic) = (vm.classes[k]?).any fun x => x.methods.any fun m => !m.isAbstract && !m.isStatic := ak_any h _ fun _ => rfl
  have e5 : ∀ (g : ClassId → Bool) (k : ClassId), (vm'.classes[k]?).any (·.interfaces.any g) = (vm.classes[k]?).any (·.interfaces.any g) := fun g => ak_any h _ fun _ => rfl
  simp only [nearestHeld, held, h.superclasses, h.declaredIn, h.superinterfaces, h.method?, e1, e2, e3, e4, e5]
def DF (C : String) (x y : MethodName) (U : State) : Prop := ∃ (c : ClassId) (r k : MethodId) (rm : Method) (mk : Class), U.vm.findClass C = some c ∧ U.methodFound? x.cls x.name x.desc = some r ∧ U.methodNamed? y = some k ∧ U.vm.method? r = some rm ∧ selectMethod {} U.vm c r = .method k ∧ U.vm.classes[k.cls]? = some mk ∧ mk.isInterface = true ∧ (∀ q d, nearestHeld U.vm c rm.name rm.desc = some (q, .default d) → d = k) ∧ ∀ q b, nearestHeld U.vm c rm.name rm.desc ≠ some (q, .thrower b)
theorem DF.of {A : Array Value} {s : State} {C : String} {x y : MethodName} (h : (Cond.landsInDefault C x y).before A s = true) : DF C x y s := by
  simp only [Cond.before, Cond.holds, Cond.value] at h
  cases hc : s.vm.findClass C with
  | none => simp [hc] at h
  | some c =>
  cases hr : s.methodFound? x.cls x.name x.desc with
  | none => simp [hc, hr] at h
  | some r =>
  cases hm : s.methodNamed? y with
  | none => simp [hc, hr, hm] at h
  | some k =>
  cases hrm : s.vm.method? r with
  | none => simp [hc, hr, hm, hrm] at h
  | some rm =>
  simp only [hc, hr, hm, hrm, Option.map_some, beq_iff_eq, Option.some.injEq] at h
  split at h
  · rename_i m' hsel
    simp only [Bool.and_eq_true, decide_eq_true_eq, Bool.not_eq_true', Option.any_eq_true] at h
    obtain ⟨⟨⟨⟨rfl, mk, hmk, hi⟩, -⟩, -⟩, hnear⟩ := h
    refine ⟨c, r, m', rm, mk, hc, hr, hm, hrm, hsel, hmk, hi, fun q d hk => ?_, fun q b hk => ?_⟩
    · rw [hk] at hnear; simpa using hnear
    · rw [hk] at hnear; cases hnear
  · cases h
theorem DF.moved {C : String} {x y : MethodName} {u U : State} (hvm : u.vm.Alike U.vm) (h : DF C x y u) : DF C x y U := by
  obtain ⟨c, r, k, rm, mk, h1, h2, h3, h4, h5, h6, h7, h8, h9⟩ := h
  obtain ⟨mk', hmk', he⟩ := hvm.2.2 _ _ h6
  refine ⟨c, r, k, rm, mk', by rw [hvm.findClass]; exact h1, ?_, ?_, by rw [hvm.method?]; exact h4, by rw [hvm.selectMethod]; exact h5, hmk', by rw [he]; exact h7, by rw [ak_near hvm]; exact h8, by rw [ak_near hvm]; exact h9⟩
  · have q : (u.setVm U.vm).methodFound? x.cls x.name x.desc = some r := by rw [State.methodFound?_setVm hvm]; exact h2
    exact q
  · have q : (u.setVm U.vm).methodNamed? y = some k := by rw [State.methodNamed?_setVm hvm]; exact h3
    exact q
def DW (own C owner : String) (index : Nat) (x y : MethodName) (U : State) : Prop := (Cond.methodLink own index x).before #[] U = true ∧ (Cond.sameMethod x.cls owner x.name x.desc).before #[] U = true ∧ va_Nw (.declares ⟨owner, x.name, x.desc⟩) U ∧ DF C x y U
theorem TB.D {adK : Nat → Nat} {U : State} (h : TB adK U) {own C owner : String} {index : Nat} {x y : MethodName} (h1 : Cond.methodLink own index x ∈ flatC (Jvm.Cond.and given_1 narrow_1)) (h2 : Cond.sameMethod x.cls owner x.name x.desc ∈ flatC (Jvm.Cond.and given_1 narrow_1)) (h3 : Cond.landsInDefault C x y ∈ flatC (Jvm.Cond.and given_1 narrow_1)) (h4 : Cond.declares ⟨owner, x.name, x.desc⟩ ∈ lw_tbl) : DW own C owner index x y U := by
  obtain ⟨s0, b0, g1, g2, g3, -⟩ := h
  have gf := flat_of_before _ g3
  exact ⟨word_at g1 (Or.inl (by first | rfl | simp [Cond.onTables, Cond.keeps, Cond.steady])) (gf _ h1), word_at g1 (Or.inl (by first | rfl | simp [Cond.onTables, Cond.keeps, Cond.steady])) (gf _ h2), va_Nw.warmD g1 (va_Nw.of rfl (g2 _ h4)), DF.moved g1.alike (DF.of (gf _ h3))⟩
theorem sv_def {e : Env} {s : State} {E : CtlPost} {d : Bool} {acts : List Action} {Q : Selection → Pre} {c : ClassId} {r k : MethodId} {rm km : Method} {mk : Class} (hsel : selectMethod e.platform s.vm c r = .method k) (hrm : s.vm.method? r = some rm) (hm : s.vm.method? k = some km) (hmk : s.vm.classes[k.cls]? = some mk) (hitf : mk.isInterface = true)
    (h8 : ∀ q d, nearestHeld s.vm c rm.name rm.desc = some (q, .default d) → d = k) (h9 : ∀ q b, nearestHeld s.vm c rm.name rm.desc ≠ some (q, .thrower b)) : wp (Op.invokeinterface.selectVirtual c r) Q E e d acts s ↔ Q (.method k) d acts s := by
  cases hp : e.platform.privateHidesDefault
  · simp [Op.invokeinterface.selectVirtual, hrm, Op.selectFor_method hsel hm, hmk, hitf, hp]
  · cases hn : nearestHeld s.vm c rm.name rm.desc with
    | none => simp [Op.invokeinterface.selectVirtual, hrm, Op.selectFor_method hsel hm, hmk, hitf, hp, hn]
    | some kh =>
      obtain ⟨q, hd⟩ := kh
      cases hd with
      | nothing => simp [Op.invokeinterface.selectVirtual, hrm, Op.selectFor_method hsel hm, hmk, hitf, hp, hn]
      | default d' => cases h8 q d' hn; simp [Op.invokeinterface.selectVirtual, hrm, Op.selectFor_method hsel hm, hmk, hitf, hp, hn]
      | thrower b => exact absurd hn (h9 q b)
theorem iv_def {e : Env} {s : State} {f : JFrame} {Q : Unit → Pre} {E : CtlPost} {d : Bool} {acts : List Action} {index a : Nat} {r k : MethodId} {c' : ClassId} {kr k' mk : Class} {rm km : Method} {args rest : List Value} {cell : Cell}
    (hs : s.topJava?.isSome) (hnamed : Op.namesResolved s.vm f.method.cls index c') (hk' : s.vm.classes[c']? = some k') (hclass : k'.isInterface = false) (hr : s.vm.methodReady f.method.cls index r)
    (hk : s.vm.classes[r.cls]? = some kr) (hrm : s.vm.method? r = some rm) (hpoly : signaturePolymorphic kr rm = false) (hstatic : rm.isStatic = false) (hlen : args.length = rm.sig.parameters.length) (hstack : f.stack = args.reverse ++ .ref a :: rest)
    (hcell : s.heap[a]? = some cell) (hobj : ∀ c, cell.vm ≠ .statics c) (hsel : selectMethod e.platform s.vm cell.cls r = .method k) (hm : s.vm.method? k = some km) (habs : km.isAbstract = false)
    (hmk : s.vm.classes[k.cls]? = some mk) (hitf : mk.isInterface = true) (h8 : ∀ q d, nearestHeld s.vm cell.cls rm.name rm.desc = some (q, .default d) → d = k) (h9 : ∀ q b, nearestHeld s.vm cell.cls rm.name rm.desc ≠ some (q, .thrower b)) :
    wp (Op.invokevirtual.sem index) Q E e d acts (s.setTop f) ↔ E (.invoke k (.ref a :: args).toArray) acts (s.setTop { f with stack := rest }) := by
  obtain ⟨kc, cf, ci, n, h1, h2, h3, h4⟩ := hnamed
  have hpre : ∀ {Q' : ClassId → Pre}, wp (Jvm.refClassAt index) Q' E e d acts (s.setTop f) ↔ Q' c' d acts (s.setTop f) := by
    intro Q'
    rcases h3 with h3 | h3 <;>
      simp [Jvm.refClassAt, Jvm.constantAt, State.method?_setTop f hs, h1, h2, h3, Jvm.W.resolveClassAt_ready (State.method?_setTop f hs) h4]
  simp only [Op.invokevirtual.sem, wp_bind', hpre, Jvm.W.theClass, State.vm_setTop, hk', Option.some.injEq, exists_eq_left', Jvm.W.ite, hclass, Bool.false_eq_true, if_false, wp_pure',
    Jvm.W.resolveMethodAt_ready (State.method?_setTop f hs) hr]
  simp only [Jvm.W.theMethod, State.vm_setTop, hrm, Option.some.injEq, exists_eq_left', Seam.isPolymorphic, wp_bind', Jvm.W.theClass, hk, wp_pure', hpoly,
    Jvm.W.ite, Bool.false_eq_true, if_false, hstatic, Jvm.popArgs, ← hlen, popN_top hs hstack]
  simp [hs, hcell, hobj, sv_def (s := s.setTop _) (show selectMethod e.platform (s.setTop _).vm cell.cls r = .method k from hsel) hrm hm hmk hitf h8 h9, hm, habs]
section FDF
variable {p : Program} {l : Launch} {e : Env} {R : Room} {s : State} {m : MethodId} {args : Array Value} {below : List Frame} {meth : Method} {c : Code} {H : Heap} {locs : List Loc} {cells slots : Nat} {Q : State → Prop}
variable {cc : ByteArray} {pc : Nat} {ls : Array Slot} {rest st0 : List Value} {F : Fam} {ct ct1 : Ct} {S : Type} {val : S → Option Value} {ct' : S → Ct}
theorem st_def {T : State} (X : Stand p l e R s m args below meth c T locs cells slots) (hexec : p.tables.exec = Jvm.exec) {own C owner : String} {index : Nat} {x y : MethodName} (hown : s.vm.findClass own = some m.cls) (hD : DW own C owner index x y s) (hinst : (Cond.instanceMethod y).before args s = true) (howner : owner ≠ "java/lang/invoke/MethodHandle" ∧ owner ≠ "java/lang/invoke/VarHandle") (hyx : y = ⟨owner, x.name, x.desc⟩)
    {a : Addr} {cell : Cell} (hcell : T.heap[a]? = some cell) (hobj : cell.vm.isStatics = false) (hcls : s.vm.findClass C = some cell.cls) {g : JFrame} (hg : g.method = m) {argsL rest : List Value} (hlen : (parseMethodDescriptor x.desc).map (fun d => d.parameters.length) = some argsL.length) (hstack : g.stack = argsL.reverse ++ .ref a :: rest) (hdg : decode c.code g.pc = .ok (.invokevirtual index, 3)) :
    ∃ (vm' : Vm) (k : MethodId), s.methodNamed? y = some k ∧ Stand p l e R s m args below meth c (T.setVm vm') locs cells slots ∧
      ∀ target, (∀ acts, Steps p.tables e below (doInvoke e ((T.setVm vm').setTop { g with stack := rest }) acts k (.ref a :: argsL).toArray).1 target) → Steps p.tables e below (T.setTop g) target := by
  obtain ⟨hlink, hsame, hdecl, c0, r0, k, r, mk, q1, q2, q3, q4, q5, q6, q7, q8, q9⟩ := hD
  cases hcls.symm.trans q1
  have hpl : e.platform.magicAccessors = ({} : Platform).magicAccessors := by rw [X.admits.platform]
  obtain ⟨cn, ck, r1, hcn, hck, hni, hf, hn⟩ := Cond.sameMethod_found hsame
  cases hf.symm.trans q2
  obtain ⟨r2, rd, hn2, hrm2, hstatic, hsig⟩ := Cond.declares_spec (va_Nw.use (A := #[]) rfl hdecl)
  cases hn.symm.trans hn2
  cases q4.symm.trans hrm2
  obtain ⟨k2, methM, hnamed, hmethM, -, habM⟩ := Cond.instanceMethod_spec hinst
  cases q3.symm.trans hnamed
  have hselP : selectMethod e.platform s.vm cell.cls r0 = .method k := by rw [Launch.admits_selectMethod X.admits]; exact q5
  obtain ⟨ci, hl, hright⟩ := Cond.methodLink_specUp hown hcn hck hni hf hlink e.platform hpl (by rw [X.admits.platform])
  have hE : s.MethodEntryUp e T.vm m.cls index cn r0 ci := State.methodEntryUp X.warmed hl hright
  obtain ⟨kr, hkr, hnr⟩ := className_of_methodNamed hn
  obtain ⟨dk, cfile, nt, _, _, _, _, _, hd, hcf, hcp, -⟩ := hl.here
  have alike := hE.warmed.alike
  obtain ⟨dk₂, hdk₂, hres⟩ := hE.classReady
  obtain ⟨dk₃, hdk₃, hed⟩ := alike.2.2 _ _ hd
  cases hdk₂.symm.trans hdk₃
  obtain ⟨kr₂, hkr₂, her⟩ := alike.2.2 _ _ hkr
  obtain ⟨ck₂, hck₂, hec⟩ := alike.2.2 _ _ hck
  obtain ⟨mk₂, hmk₂, hem⟩ := alike.2.2 _ _ q6
  have hlenr : argsL.length = r.sig.parameters.length := by
    have h := hlen
    rw [show parseMethodDescriptor x.desc = some r.sig from hsig] at h
    exact (Option.some.inj h).symm
  have hobj' : ∀ z, cell.vm ≠ .statics z := fun z h => by rw [h] at hobj; cases hobj
  refine ⟨T.vm.calledUp m.cls ci index cn r0, k, q3, X.noted hE.warmed, fun target hrest => ?_⟩
  subst hg
  jvm_step X.here [hexec, hdg, Op.invokevirtual.wp_coldUp (e := e) (s := T) (s₀ := s) (f := g) X.here.top X.warmed hE hd hcf (Or.inl hcp) hck hni,
    iv_def (e := e) (s := T.setVm (T.vm.calledUp g.method.cls ci index cn r0)) (f := g) (r := r0) (k := k) (c' := cn) (kr := kr₂) (k' := ck₂) (mk := mk₂) (rm := r) (km := methM) (a := a) (args := argsL) (rest := rest) (cell := cell)
      X.here.top ⟨dk₂, cfile, ci, nt, hdk₂, by rw [hed]; exact hcf, Or.inl hcp, dk₂, hdk₂, hres⟩ hck₂ (by rw [hec]; exact hni) hE.ready hkr₂
      (by show (T.vm.calledUp g.method.cls ci index cn r0).method? r0 = some r; rw [alike.method?]; exact q4)
      (by rw [her]; show signaturePolymorphic kr r = false; simp [signaturePolymorphic, hnr, howner.1, howner.2]) hstatic hlenr hstack hcell hobj'
      (by show selectMethod e.platform (T.vm.calledUp g.method.cls ci index cn r0) cell.cls r0 = .method k; rw [alike.selectMethod]; exact hselP)
      (by show (T.vm.calledUp g.method.cls ci index cn r0).method? k = some methM; rw [alike.method?]; exact hmethM) habM hmk₂ (by rw [hem]; exact q7)
      (by show ∀ q d, nearestHeld (T.vm.calledUp g.method.cls ci index cn r0) cell.cls r.name r.desc = some (q, .default d) → d = k; rw [ak_near alike]; exact q8)
      (by show ∀ q b, nearestHeld (T.vm.calledUp g.method.cls ci index cn r0) cell.cls r.name r.desc ≠ some (q, .thrower b); rw [ak_near alike]; exact q9)]
  exact hrest
theorem half_in {T : State} (X : Stand p l e R s m args below meth c T locs cells slots) (hexec : p.tables.exec = Jvm.exec) {g : JFrame} (hg : g.method = m) (hsize : g.locals.size = c.maxLocals) {mk : MethodId} (hn : s.methodNamed? yX14_half = some mk) (hcode : (Cond.code yX14_half cX14_half 2 (some .int)).before args s = true) {a : Addr} {v : Int32} {ig : Instr} {len : Nat} (hdg : decode c.code g.pc = .ok (ig, len)) (hframes : 1 ≤ R.frames) (hlocals : 2 * g.monitorRoom + (g.stack.map fun v => v.category).sum + 13 ≤ R.locals) {target : State} (acts : List Action)
    (hrest : Steps p.tables e below (T.setTop { g with pc := g.pc + len, stack := .int (v / 2) :: g.stack }) target) : Steps p.tables e below (doInvoke e (T.setTop g) acts mk ([.ref a, .int v] : List Value).toArray).1 target := by
  subst hg
  obtain ⟨methY, cY, hm, hc, hbytes, hL, hret, hlk, -, -⟩ := Cond.code_spec hn hcode
  have hm' : T.vm.method? mk = some methY := by rw [X.warmed.alike.method?]; exact hm
  have hn' : T.methodNamed? yX14_half = some mk := X.named hn
  rw [doInvoke_enter X.here.top acts hm' hc hlk (X.notFull hsize hframes (by rw [hL]; omega))]
  have hpl : T.plainMethod mk := State.plainMethod.of_named (s := T) (by decide) hn' hm'
  have A := At.enter (h := X.here) ([.ref a, .int v] : List Value).toArray hm' hc hpl
  have hf := frames_entered (g := g) X.here.top (.java (entryFrame mk ([.ref a, .int v] : List Value).toArray cY.maxLocals))
  have hcg : ((T.setTop g).pushFrame (.java (entryFrame mk ([.ref a, .int v] : List Value).toArray cY.maxLocals))).code? g.method = some c := by
    have := X.here.code
    rw [State.code?_eq] at this ⊢
    simpa [State.pushFrame, State.setFrames] using this
  have hmu : ((T.setTop g).pushFrame (.java (entryFrame mk ([.ref a, .int v] : List Value).toArray cY.maxLocals))).vm.method? mk = some methY := by simpa [State.pushFrame, State.setFrames] using hm'
  rw [hL] at A hf hcg hmu ⊢
  have hfin : Steps p.tables e below ((((T.setTop g).pushFrame (.java (entryFrame mk ([.ref a, .int v] : List Value).toArray 2))).setFrames (.java g :: T.frames.tail)).setTop { g with pc := g.pc + len, stack := (some (Value.int (v / 2))).toList ++ g.stack }) target := by
    rw [setFrames_entered X.here.top, State.setTop_setTop]
    exact hrest
  have key : ∀ (f : JFrame) (acts : List Action), f.method = mk → f.locked = none → f.entered = [] → (doReturn e (((T.setTop g).pushFrame (.java (entryFrame mk ([.ref a, .int v] : List Value).toArray 2))).setTop f) acts (some (.int (v / 2)))).1 = (((T.setTop g).pushFrame (.java (entryFrame mk ([.ref a, .int v] : List Value).toArray 2))).setFrames (.java g :: T.frames.tail)).setTop { g with pc := g.pc + len, stack := (some (Value.int (v / 2))).toList ++ g.stack } := by
    intro f acts h1 h2 h3
    exact doReturn_leave (g := g) (meth := methY) (cg := c) (ig := ig) (len := len) acts hf (by rw [h1]; exact hmu) hlk h2 h3 hcg hdg
  generalize (T.setTop g).pushFrame (.java (entryFrame mk ([.ref a, .int v] : List Value).toArray 2)) = U at A hf hcg hmu hfin key ⊢
  rw [lg_entry_eq]
  have hl : lv_has _ 2 (lv_args 0 [.ref a, .int v]) := lv_entry [.ref a, .int v] (Nat.le_of_ble_eq_true rfl)
  revert hl
  generalize ((lg_sl ([.ref a, .int v] : List Value) ++ List.replicate (2 - (lg_sl ([.ref a, .int v] : List Value)).length) Slot.unset).toArray) = ls2
  intro hl
  have hl1 : ls2[1]? = some (.val (.int v)) := lv_at (l := lv_args 0 [.ref a, .int v]) hl 1 rfl
  jvm_step A [A.top, hexec, hbytes, dX14_half_0, hl1]
  jvm_step A [A.top, hexec, hbytes, dX14_half_1]
  jvm_step A [A.top, hexec, hbytes, dX14_half_2]
  jvm_step A [A.top, hexec, hbytes, dX14_half_3, hmu, hret, narrow]
  (try refine ⟨rfl, ?_⟩); (try refine ⟨rfl, ?_⟩)
  first | (intro acts; rw [key _ acts rfl rfl rfl]) | rw [key _ _ rfl rfl rfl]
  exact hfin
theorem fc_H {own C : String} {index nL : Nat} {x : MethodName} {b : Addr} {v : Int32} (hx : p.tables.exec = Jvm.exec) (hb : c.code = cc) (hml : c.maxLocals = nL) (hown : s.vm.findClass own = some m.cls) (hts : ∀ w ∈ lw_all, w.before args s = true)
    (hD : DW own C "OwlEars$Strikes" index x yX14_half s) (hyx : yX14_half = ⟨"OwlEars$Strikes", x.name, x.desc⟩) (hd : (parseMethodDescriptor x.desc).map (fun d => d.parameters.length) = some 1) (hR : 1 ≤ R.frames ∧ 21 ≤ R.locals)
    (hbo : ∃ cellB : Cell, H[b]? = some cellB ∧ cellB.vm.isStatics = false ∧ s.vm.findClass C = some cellB.cls) (hsize : ls.size = nL) (hW : (rest.map fun v => v.category).sum ≤ 8) (hdg : decode cc pc = .ok (.invokevirtual index, 3))
    (kk : W p l e R s m args below meth c H locs cells slots Q (F0 m (pc + 3) ls (.int (v / 2) :: rest))) : W p l e R s m args below meth c H locs cells slots Q (F0 m pc ls (.int v :: .ref b :: rest)) := by
  obtain ⟨cellB, hcB, hoB, hclB⟩ := hbo
  intro T hT X
  obtain ⟨vm₁, mk, hnamed, X₁, hstep₁⟩ := st_def X hx hown hD (hts _ q617) (by decide) hyx (a := b) (cell := cellB) (by rw [hT]; exact hcB) hoB hclB (g := F0 m pc ls (.int v :: .ref b :: rest)) rfl (argsL := [.int v]) (rest := rest) hd rfl (by rw [hb]; exact hdg)
  obtain ⟨t, a1, b1⟩ := kk (T.setVm vm₁) hT X₁
  exact ⟨t, hstep₁ _ fun acts => half_in X₁ hx (g := { (F0 m pc ls (.int v :: .ref b :: rest)) with stack := rest }) rfl (hsize.trans hml.symm) hnamed (hts _ q619) (by rw [hb]; exact hdg) hR.1 (by show 2 * 0 + (rest.map fun v => v.category).sum + 13 ≤ R.locals; omega) acts a1, b1⟩
end FDF
theorem lw4 {L : List Cond} {a b c d : Cond} (h1 : a ∈ L) (h2 : b ∈ L) (h3 : c ∈ L) (h4 : d ∈ L) : ∀ w ∈ ([a, b, c, d] : List Cond), w ∈ L := by
  intro w h
  simp only [List.mem_cons, List.not_mem_nil, or_false] at h
  rcases h with rfl | rfl | rfl | rfl <;> assumption
theorem lw5 {L : List Cond} {a b c d e : Cond} (h1 : a ∈ L) (h2 : b ∈ L) (h3 : c ∈ L) (h4 : d ∈ L) (h5 : e ∈ L) : ∀ w ∈ ([a, b, c, d, e] : List Cond), w ∈ L := by
  intro w h
  simp only [List.mem_cons, List.not_mem_nil, or_false] at h
  rcases h with rfl | rfl | rfl | rfl | rfl <;> assumption
theorem lw6 {L : List Cond} {a b c d e f : Cond} (h1 : a ∈ L) (h2 : b ∈ L) (h3 : c ∈ L) (h4 : d ∈ L) (h5 : e ∈ L) (h6 : f ∈ L) : ∀ w ∈ ([a, b, c, d, e, f] : List Cond), w ∈ L := by
  intro w h
  simp only [List.mem_cons, List.not_mem_nil, or_false] at h
  rcases h with rfl | rfl | rfl | rfl | rfl | rfl <;> assumption
