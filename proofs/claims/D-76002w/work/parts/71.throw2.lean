section FT2
variable {p : Program} {l : Launch} {e : Env} {R : Room} {s : State} {m : MethodId} {args : Array Value} {below : List Frame} {meth : Method} {c : Code} {H : Heap} {locs : List Loc} {cells slots : Nat} {Q : State → Prop}
variable {cc : ByteArray} {pc : Nat} {ls : Array Slot} {rest st0 : List Value} {F : Fam} {ct ct1 : Ct} {S : Type} {ct' : S → Ct}
theorem fc_VT {own C : String} {index maxL nL : Nat} {y : MethodName} {bytes : ByteArray} {ret : Option FieldType} {rm : Room} {b x : Addr} {As : List Value} (hx : p.tables.exec = Jvm.exec) (hb : c.code = cc) (hml : c.maxLocals = nL) (hown : s.vm.findClass own = some m.cls) (hts : ∀ w ∈ lw_all, w.before args s = true) (hX : fX F s) (hC : fC F ct s.heap H locs)
    (hM : CmX l y (ws_ y bytes maxL ret) rm F (.ref b :: As) ct (fun _ : S => .threw x) ct') (hw : GoodIn lw_all (wsV own index C y (ws_ y bytes maxL ret)))
    (hd : y.cls = C ∧ y.cls ≠ "java/lang/invoke/MethodHandle" ∧ y.cls ≠ "java/lang/invoke/VarHandle" ∧ (parseMethodDescriptor y.desc).map (fun d => d.parameters.length) = some As.length) (hrc : rm.cells = 0 ∧ rm.slots = 0) (hR : rm.frames + 1 ≤ R.frames ∧ 8 + (maxL + 11) + rm.locals ≤ R.locals)
    (hbo : ∃ cellB : Cell, H[b]? = some cellB ∧ cellB.vm.isStatics = false ∧ s.vm.findClass C = some cellB.cls) (hsize : ls.size = nL) (hstack : st0 = As.reverse ++ .ref b :: rest) (hW : (rest.map fun v => v.category).sum ≤ 8) (hf : cells ≤ R.cells ∧ slots ≤ R.slots) (hdg : decode cc pc = .ok (.invokevirtual index, 3))
    (kk : ∀ (u : S) (H1 : Heap) (locs1 : List Loc), fC F (ct' u) s.heap H1 locs1 → WT p l e R s m args below meth c H1 locs1 cells slots Q x (F0 m pc ls rest)) : W p l e R s m args below meth c H locs cells slots Q (F0 m pc ls st0) := by
  have cw := cwV (R := R) (s := s) (args := args) As.length hts hw rfl hrc.1 hrc.2 hd hR
  obtain ⟨⟨-, -, hfrm, hlo, hws, -, hcode, hini, hy, hlen, hl⟩, hin, hse⟩ := cw
  obtain ⟨cellB, hcB, hoB, hclB⟩ := hbo
  intro T hT X
  obtain ⟨mk, methM, hnamed, hmethM, hstM, habM⟩ := Cond.instanceMethod_spec hin
  obtain ⟨methM', cM, hmethM', hcM, -, hlM, -, -, -, hsigM⟩ := Cond.code_spec hnamed hcode
  cases hmethM.symm.trans hmethM'
  obtain ⟨c2, r2, m2, q1, q2, q3, q4, kP, hkP, hkPi⟩ := Cond.selects_spec hse
  cases hclB.symm.trans q1
  cases (State.methodFound?_of_named hnamed hy).symm.trans q2
  cases hnamed.symm.trans q3
  have hselP : selectMethod e.platform s.vm cellB.cls mk = .method mk := by rw [Launch.admits_selectMethod X.admits]; exact q4
  obtain ⟨vm₁, X₁, hstep₁⟩ := X.invokevirtual hx hown hl hnamed hmethM hstM hkP hkPi hy (a := b) (cell := cellB) (by rw [hT]; exact hcB)
    (fun z h => by rw [h] at hoB; cases hoB) hselP hmethM habM hkP hkPi (g := F0 m pc ls st0) rfl (argsL := As) (rest := rest) (hlen _ hsigM) hstack (by rw [hb]; exact hdg)
  have hn : (T.setVm vm₁).methodNamed? y = some mk := X₁.named hnamed
  have hmY : (T.setVm vm₁).vm.method? mk = some methM := by rw [X₁.warmed.alike.method?]; exact hmethM
  obtain ⟨kY, hkY, -⟩ := className_of_methodNamed hn
  have hinit9 : (Cond.initialized y.cls).before (Value.ref b :: As).toArray (T.setVm vm₁) = true := word_at X₁.warmed (Or.inl (by first | rfl | simp [Cond.onTables, Cond.keeps, Cond.steady])) hini
  have hinitY : kY.init = .initialized := Cond.initialized_spec (findClass_of_methodNamed hn) hkY hinit9
  have h : At (T.setVm vm₁) m c below := X₁.here
  have happ : (headSpec (ws_ y bytes maxL ret) rm).appliesLoose y e.platform ((T.setVm vm₁).calling (F0 m pc ls rest) mk (Value.ref b :: As).toArray) = true :=
    Spec.appliesLoose_calling (g := F0 m pc ls rest) h (by rw [hb]; exact hdg) hn hkY hinitY
      (X₁.room_calling (g := F0 m pc ls rest) (R' := rm) (hsize.trans hml.symm) hmY hcM hfrm (by rw [hlM]; have h9 := @lv_room m pc ls rest rest hW; show 2 * (F0 m pc ls rest).monitorRoom + (rest.map fun v => v.category).sum + (maxL + 11) + rm.locals ≤ R.locals; omega) (by rw [hrc.1]; exact hf.1) (by rw [hrc.2]; exact hf.2))
      (atoms_intro fun w hw => hws w hw _ _ X₁.warmed)
  obtain ⟨mid, hmid⟩ := h.above
  have hfr : ((T.setVm vm₁).setTop (F0 m pc ls rest)).frames = (.java (F0 m pc ls rest) :: mid) ++ below := by rw [State.frames_setTop' _ h.top, hmid]; rfl
  have hPc : va_Pc (Value.ref b :: As) (fun U => U.heap.size = H.size ∧ fI F ct U) (Value.ref b :: As).toArray (T.setVm vm₁) := ⟨rfl, by rw [← hT]; rfl, fI_of hX hC hT X₁.warmed⟩
  obtain ⟨o, s₂, hsteps, -, hend, ⟨⟨⟨u, ho, hB⟩, hz, hk⟩, -, hW₂, L, ⟨e2, q2, q3, q4, q5, q6⟩, hL⟩⟩ := Steps.callFree (hM H.size) p X₁.admits X₁.cas X₁.clock (acts := []) hfr happ (fPc_blind _ _ _ _ hPc) trivial
  subst ho
  have hend' : s₂.frames = .throwing x :: ((T.setVm vm₁).setTop (F0 m pc ls rest)).frames := hend
  have e3 : s₂ = ({ ((T.setVm vm₁).calling (F0 m pc ls rest) mk (Value.ref b :: As).toArray).setFrames s₂.frames with heap := s₂.heap, slotsUsed := s₂.slotsUsed } : State).setVm s₂.vm := by
    have : s₂ = ({ s₂ with vm := ((T.setVm vm₁).calling (F0 m pc ls rest) mk (Value.ref b :: As).toArray).vm } : State).setVm s₂.vm := rfl
    have e2 : ({ s₂ with vm := ((T.setVm vm₁).calling (F0 m pc ls rest) mk (Value.ref b :: As).toArray).vm } : State) = ({ ((T.setVm vm₁).calling (F0 m pc ls rest) mk (Value.ref b :: As).toArray).setFrames s₂.frames with heap := s₂.heap, slotsUsed := s₂.slotsUsed } : State) := e2
    rw [e2] at this
    exact this
  have hW' : (T.setVm vm₁).WarmedH s₂.vm := hW₂
  obtain ⟨g₀, hg0⟩ := Option.isSome_iff_exists.mp h.top
  obtain ⟨r, hr⟩ := State.topJava?_eq_some.mp hg0
  have hs₂ : s₂ = ((({ T.setVm vm₁ with heap := s₂.heap, slotsUsed := s₂.slotsUsed } : State).setVm s₂.vm).setTop (F0 m pc ls rest)).pushFrame (.throwing x) := by
    have hr' : (({ T.setVm vm₁ with heap := s₂.heap, slotsUsed := s₂.slotsUsed } : State).setVm s₂.vm).frames = .java g₀ :: r := hr
    refine e3.trans ?_
    rw [hend', State.calling_eq h.top, State.setFrames_setFrames, State.pushFrame, State.frames_setTop _ hr', State.setTop_of_frames _ hr', State.setFrames_setFrames, State.frames_setTop _ hr]
    rfl
  have hsame : (T.setVm vm₁).sameButNew ({ T.setVm vm₁ with heap := s₂.heap, slotsUsed := s₂.slotsUsed } : State) L 0 0 := by
    refine ⟨?_, q2, q3, q4, q5, q6⟩
    obtain ⟨t, ht, -⟩ := State.frames_cons hr
    show ({ T.setVm vm₁ with heap := s₂.heap, slotsUsed := s₂.slotsUsed } : State) = { (T.setVm vm₁).setFrames (T.setVm vm₁).frames with heap := s₂.heap, slotsUsed := s₂.slotsUsed }
    rw [State.setFrames_self ht]
  have X' : Stand p l e R s m args below meth c ((({ T.setVm vm₁ with heap := s₂.heap, slotsUsed := s₂.slotsUsed } : State).setVm s₂.vm)) (locs ++ L) cells slots :=
    ⟨X₁.admits, X₁.cas, X₁.clock, X₁.frames, X₁.room, X₁.hears, X₁.method, X₁.code, (X₁.here.setHeapUsed s₂.heap s₂.slotsUsed).setVm hW'.alike, X₁.tail, State.WarmedH.trans X₁.warmed hW', X₁.limits, X₁.bytes, X₁.same.trans (hsame.setVm s.vm)⟩
  have h0 : (((T.setVm vm₁).setTop (F0 m pc ls rest)).pushFrame (Frame.invoking mk (Value.ref b :: As).toArray)).heap = H := hT
  rw [h0] at hz hk
  have hs := fA_sub (F := F) hC.2.1
  obtain ⟨t2, a1, b1⟩ := kk u s₂.heap (locs ++ L) ⟨hB.2.1, Nat.le_trans hC.2.1 hz, fun q h1 h2 => by rw [hk q (Nat.lt_of_lt_of_le h1 hC.2.1) (fun z => h2 (hs q z))]; exact hC.2.2.1 q h1 h2, fun q hq => by
      rcases List.mem_append.mp hq with h | h
      · exact hC.2.2.2 q h
      · exact hs _ (hL q h)⟩ (({ T.setVm vm₁ with heap := s₂.heap, slotsUsed := s₂.slotsUsed } : State).setVm s₂.vm) rfl X'
  have a2 : Steps p.tables e below s₂ t2 := by rw [hs₂]; exact a1
  exact ⟨t2, hstep₁ _ fun acts => by rw [doInvoke_state]; exact hsteps.trans a2, b1⟩
end FT2
