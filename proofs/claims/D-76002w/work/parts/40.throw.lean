def MXo (o : Outcome) : Prop := (∃ v, o = .returned v) ∨ ∃ x, o = .threw x
def MetX (l : Launch) (y : MethodName) (ws : List Cond) (rm : Room) (Pc : Array Value → State → Prop) (Qc : Array Value → State → Outcome → State → Prop) (free : Addr → Prop) : Prop :=
  MetFree l y (headSpec ws rm) Pc (fun _ _ _ _ _ => True) (fun a st o t => Qc a st o t ∧ MXo o ∧ st.WarmedH t.vm ∧ ∃ L, st.sameButNew ({ t with vm := st.vm } : State) L 0 0 ∧ ∀ q ∈ L, free q.base)
def MQX (below : List Frame) (Qc : Array Value → State → Outcome → State → Prop) (a : Array Value) (s : State) (free : Addr → Prop) : State → Prop := fun t =>
  ∃ o, t.status = .running ∧ Ended t below o ∧ Qc a s o t ∧ MXo o ∧ s.WarmedH t.vm ∧ ∃ L, s.sameButNew ({ t with vm := s.vm } : State) L 0 0 ∧ ∀ q ∈ L, free q.base
def hdl (c : Code) : List (Nat × Nat × Nat × Nat) := c.exceptionTable.toList.map (fun h => (h.startPc, h.endPc, h.handlerPc, h.catchType))
def CQX {S : Type} (out : S → Outcome) (B : S → State → Prop) (A : Nat → Prop) : Array Value → State → Outcome → State → Prop := fun _ st oc t => (∃ u : S, oc = out u ∧ B u t) ∧ va_F A st t
def CmX {S : Type} (l : Launch) (y : MethodName) (ws : List Cond) (rm : Room) (F : Fam) (av : List Value) (ct : Ct) (out : S → Outcome) (ct' : S → Ct) : Prop :=
  ∀ sz : Nat, MetX l y ws rm (va_Pc av (fun U => U.heap.size = sz ∧ fI F ct U)) (CQX out (fun u t => fI F (ct' u) t) (fA F sz)) (fA F sz)
abbrev WGX {S : Type} (p : Program) (l : Launch) (e : Env) (R : Room) (s : State) (m : MethodId) (args : Array Value) (below : List Frame) (meth : Method) (c : Code) (H : Heap) (locs : List Loc) (F : Fam) (out : S → Outcome) (ct' : S → Ct) (g : JFrame) : Prop :=
  W p l e R s m args below meth c H locs 0 0 (MQX below (CQX out (fun u t => fI F (ct' u) t) (fA F s.heap.size)) args s (fA F s.heap.size)) g
def WT (p : Program) (l : Launch) (e : Env) (R : Room) (s : State) (m : MethodId) (args : Array Value) (below : List Frame) (meth : Method) (c : Code) (H : Heap) (locs : List Loc) (cells slots : Nat) (Q : State → Prop) (a : Addr) (g : JFrame) : Prop :=
  ∀ T : State, T.heap = H → Stand p l e R s m args below meth c T locs cells slots → ∃ t, Steps p.tables e below ((T.setTop g).pushFrame (.throwing a)) t ∧ Q t
theorem CmX.start {S : Type} {l : Launch} {y : MethodName} {b : ByteArray} {L : Nat} {ret : Option FieldType} {rm : Room} {F : Fam} {av : List Value} {ct : Ct} {out : S → Outcome} {ct' : S → Ct} (hy : plainName y.cls = true) (hL : (lg_sl av).length ≤ L)
    (body : ∀ (p : Program) (e : Env) (s : State) (m : MethodId) (below : List Frame) (meth : Method) (c : Code), Fx p s m meth c b L ret av.toArray y.cls → hdl c = [] → fX F s → fC F ct s.heap s.heap [] → ∀ ls : Array Slot, lv_has ls L (lv_args 0 av) → WGX p l e rm s m av.toArray below meth c s.heap [] F out ct' (F0 m 0 ls [])) : CmX l y (ws_ y b L ret) rm F av ct out ct' := by
  intro sz
  refine MetFree.of_bodyS (code := b) (maxLocals := L) (ret := ret) hy ?_ ?_
  · intro args s m h hn
    obtain ⟨meth, c, h1, h2, h3, h4, h5, h6, -, -⟩ := Cond.code_spec hn (atoms_spec (ws := ws_ y b L ret) h _ List.mem_cons_self)
    exact ⟨meth, c, h1, h2, h3, h4, h5, h6⟩
  · intro p e s m args below meth c s₁ B hml hP _
    obtain ⟨rfl, hsz, hok, hP, hK, hE⟩ := hP
    subst hsz
    have hts := atoms_spec (ws := ws_ y b L ret) B.pre
    have hno : c.exceptionTable.isEmpty = true := B.noHandlers (hts _ List.mem_cons_self)
    have hts : ∀ w ∈ lw_all, w.before _ s = true := fun w h => hts w (List.mem_cons_of_mem _ h)
    have hh0 : s₁.heap = s.heap := by rw [B.state]; rfl
    have hhd : hdl c = [] := by
      have h0 : c.exceptionTable = #[] := by simpa using hno
      simp [hdl, h0]
    have key := body p e s m below meth c ⟨B.exec, B.bytes, B.returns, hml, findClass_of_methodNamed B.named, hts, B.notSynchronized⟩ hhd ⟨hok, hK, hE⟩ ⟨hP, va_S.rf⟩ _ (lv_entry av hL)
    rw [← lg_entry_eq] at key
    obtain ⟨t, a1, o, b1, b2, b3⟩ := key s₁ hh0 (Stand.of_body B)
    exact ⟨t, o, a1, b1, b2, b3⟩
theorem CmX.startW {S : Type} {l : Launch} {y : MethodName} {b : ByteArray} {L : Nat} {ret : Option FieldType} {hh : List (Nat × Nat × Nat × Nat)} {rm : Room} {F : Fam} {av : List Value} {ct : Ct} {out : S → Outcome} {ct' : S → Ct} (hy : plainName y.cls = true) (hL : (lg_sl av).length ≤ L)
    (body : ∀ (p : Program) (e : Env) (s : State) (m : MethodId) (below : List Frame) (meth : Method) (c : Code), Fx p s m meth c b L ret av.toArray y.cls → hdl c = hh → fX F s → fC F ct s.heap s.heap [] → ∀ ls : Array Slot, lv_has ls L (lv_args 0 av) → WGX p l e rm s m av.toArray below meth c s.heap [] F out ct' (F0 m 0 ls [])) : CmX l y (wsW_ y b L ret hh) rm F av ct out ct' := by
  intro sz
  refine MetFree.of_bodyS (code := b) (maxLocals := L) (ret := ret) hy ?_ ?_
  · intro args s m h hn
    obtain ⟨m9, meth, c, hn9, h1, h2, h3, h4, -, h5, h6, -⟩ := Cond.codeWith_spec (atoms_spec (ws := wsW_ y b L ret hh) h _ List.mem_cons_self)
    cases hn.symm.trans hn9
    exact ⟨meth, c, h1, h2, h3, h4, h5, h6⟩
  · intro p e s m args below meth c s₁ B hml hP _
    obtain ⟨rfl, hsz, hok, hP, hK, hE⟩ := hP
    subst hsz
    have hts := atoms_spec (ws := wsW_ y b L ret hh) B.pre
    obtain ⟨m9, meth9, c9, hn9, h1, h2, h3, h4, h7, h5, h6, -⟩ := Cond.codeWith_spec (hts _ List.mem_cons_self)
    cases B.named.symm.trans hn9
    cases B.method.symm.trans h1
    cases (Stand.of_body B).code.symm.trans h2
    have hts : ∀ w ∈ lw_all, w.before _ s = true := fun w h => hts w (List.mem_cons_of_mem _ h)
    have hh0 : s₁.heap = s.heap := by rw [B.state]; rfl
    have key := body p e s m below meth c ⟨B.exec, B.bytes, B.returns, hml, findClass_of_methodNamed B.named, hts, B.notSynchronized⟩ h7 ⟨hok, hK, hE⟩ ⟨hP, va_S.rf⟩ _ (lv_entry av hL)
    rw [← lg_entry_eq] at key
    obtain ⟨t, a1, o, b1, b2, b3⟩ := key s₁ hh0 (Stand.of_body B)
    exact ⟨t, o, a1, b1, b2, b3⟩
theorem Cm.startH {S : Type} {l : Launch} {y : MethodName} {b : ByteArray} {L : Nat} {ret : Option FieldType} {hh : List (Nat × Nat × Nat × Nat)} {rm : Room} {F : Fam} {av : List Value} {ct : Ct} {val : S → Option Value} {ct' : S → Ct} (hy : plainName y.cls = true) (hL : (lg_sl av).length ≤ L)
    (body : ∀ (p : Program) (e : Env) (s : State) (m : MethodId) (below : List Frame) (meth : Method) (c : Code), Fx p s m meth c b L ret av.toArray y.cls → hdl c = hh → fX F s → fC F ct s.heap s.heap [] → ∀ ls : Array Slot, lv_has ls L (lv_args 0 av) → WG p l e rm s m av.toArray below meth c s.heap [] F val ct' (F0 m 0 ls [])) : Cm l y (wsW_ y b L ret hh) rm F av ct val ct' := by
  intro sz
  refine va_MetW (cc := b) (maxL := L) (ret := ret) (hh := hh) hy rfl ?_
  intro p e s m args below meth c s₁ B hml hv
  obtain ⟨rfl, hsz, hok, hP, hK, hE⟩ := hv
  subst hsz
  have hts := atoms_spec (ws := wsW_ y b L ret hh) B.pre
  obtain ⟨m9, meth9, c9, hn9, h1, h2, h3, h4, h7, h5, h6, -⟩ := Cond.codeWith_spec (hts _ List.mem_cons_self)
  cases B.named.symm.trans hn9
  cases B.method.symm.trans h1
  cases (Stand.of_body B).code.symm.trans h2
  have hts : ∀ w ∈ lw_all, w.before _ s = true := fun w h => hts w (List.mem_cons_of_mem _ h)
  rw [lg_entry_eq]
  exact body p e s m below meth c ⟨B.exec, B.bytes, B.returns, hml, findClass_of_methodNamed B.named, hts, B.notSynchronized⟩ h7 ⟨hok, hK, hE⟩ ⟨hP, va_S.rf⟩ _ (lv_entry av hL)
section FTH
variable {p : Program} {l : Launch} {e : Env} {R : Room} {s : State} {m : MethodId} {args : Array Value} {below : List Frame} {meth : Method} {c : Code} {H : Heap} {locs : List Loc} {cells slots : Nat} {Q : State → Prop}
variable {cc : ByteArray} {pc : Nat} {ls : Array Slot} {rest st0 : List Value} {F : Fam} {ct ct1 : Ct} {S : Type} {out : S → Outcome} {ct' : S → Ct}
theorem frx {v : Option Value} {g : JFrame} (u : S) (ho : out u = .returned v) (hct : ct1 = ct' u) (h : WG p l e R s m args below meth c H locs F (fun _ : Unit => v) (fun _ => ct1) g) : WGX p l e R s m args below meth c H locs F out ct' g := by
  intro T hT X
  obtain ⟨t, h1, o, b1, b2, ⟨⟨u0, e0, b3⟩, b4⟩, L, ⟨⟨v0, hv0⟩, b5, b6⟩, b7⟩ := h T hT X
  subst hct
  exact ⟨t, h1, o, b1, b2, ⟨⟨u, by rw [e0, ho], b3⟩, b4⟩, Or.inl ⟨v0, hv0⟩, b5, L, b6, b7⟩
theorem fx_out {a : Addr} {hh : List (Nat × Nat × Nat × Nat)} {st : List Value} (hlocks : meth.locks = false) (hX : fX F s) (hC : fC F ct1 s.heap H locs) (hE : hdl c = hh) (hn : (hh.all (fun q => !(decide (q.1 ≤ pc) && decide (pc < q.2.1)))) = true) (u : S) (ho : out u = .threw a) (hct : ct1 = ct' u) :
    WT p l e R s m args below meth c H locs 0 0 (MQX below (CQX out (fun u t => fI F (ct' u) t) (fA F s.heap.size)) args s (fA F s.heap.size)) a (F0 m pc ls st) := by
  intro T hT X
  obtain ⟨h1, h2, h3, h4, h5⟩ := X.leaveThrown a (g := F0 m pc ls st) rfl rfl rfl (fun x hx => by
    have hm : (x.startPc, x.endPc, x.handlerPc, x.catchType) ∈ hh := by
      rw [← hE]
      exact List.mem_map.mpr ⟨x, hx, rfl⟩
    have := List.all_eq_true.mp hn _ hm
    have h2 : pc < x.startPc ∨ x.endPc ≤ pc := by simpa using this
    simp only [covers, Bool.and_eq_false_iff, decide_eq_false_iff_not]
    omega) hlocks
  exact ⟨_, h1, .threw a, h2, h3, ⟨⟨u, ho.symm, fI_of hX (hct ▸ hC) hT h4⟩, hC.2.F hT⟩, Or.inr ⟨a, rfl⟩, h4, locs, h5, hC.2.2.2⟩
theorem fx_athrow {a : Addr} (hx : p.tables.exec = Jvm.exec) (hb : c.code = cc) (hdg : decode cc pc = .ok (.athrow, 1)) (kk : WT p l e R s m args below meth c H locs cells slots Q a (F0 m pc ls rest)) : W p l e R s m args below meth c H locs cells slots Q (F0 m pc ls (.ref a :: rest)) := by
  intro T hT X
  obtain ⟨t, h1, h2⟩ := kk T hT X
  refine ⟨t, ?_, h2⟩
  jvm_step X.here [hx, hb, hdg, Op.athrow.wp_sem]
  exact h1
end FTH
