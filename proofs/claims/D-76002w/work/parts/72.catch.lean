theorem ft_cold {Q : Handler → Pre} {E : CtlPost} {e : Env} {d : Bool} {acts : List Action} {s : State} {f : JFrame} {a : Addr} {x : ExceptionTableEntry} {t : List ExceptionTableEntry} {c0 : ClassId} {cell : Cell} {vm' : Vm} (hx : covers x f.pc = true) (h0 : x.catchType ≠ 0)
    (hg : (resolveClass f.method.cls x.catchType).Gives e.toSetting s.vm (.ok c0) vm') (hsz : vm'.classes.size ≤ s.vm.classes.size) (hcell : s.heap[a]? = some cell) (hobj : ∀ k, cell.vm ≠ .statics k)
    (hk : ∃ k, vm'.classes[cell.cls]? = some k) (hc : ∃ k, vm'.classes[c0]? = some k) (hfit : vm'.assignable cell.cls c0 = true) :
    wp (findHandler.go f a (x :: t)) Q E e d acts s ↔ Q (.found x.handlerPc) d acts (s.setVm vm') := by
  obtain ⟨ha, ht⟩ := hg.op (op := VmOp.resolveClass f.method.cls x.catchType) rfl
  simp only [covers] at hx
  simp [findHandler.go, hx, h0, ha, ht, hsz, hcell, hobj, hk, hc, hfit, VmOp.dirties, VmOp.acts]
theorem ft_step {e : Env} {s s' : State} {a : Addr} {f : JFrame} {r : List Frame} {pc : Nat} (hfind : ∀ (Q : Handler → Pre) (E : CtlPost) (d : Bool) (acts : List Action), wp (findHandler f a) Q E e d acts s ↔ Q (.found pc) d acts s') :
    (stepThrowing e s a (.java f :: r)).Is (s'.setFrames (.java { f with pc := pc, stack := [.ref a] } :: r)) [] := by
  simp only [stepThrowing, searchFrame, vmDo]
  generalize hr : Sem.go _ e false [] s = res
  obtain ⟨as, rfl, ha⟩ := Sem.eq_ok_of hr (a := Handler.found pc) (s' := s') (acts' := []) (by simp [hfind _ _ _ _])
  exact ⟨rfl, ha⟩
theorem ft_caught {tb : Tables} {e : Env} {s target : State} {g : JFrame} {c : Code} {below : List Frame} {a : Addr} {vm' : Vm} (h : At s g.method c below) {pc : Nat} (hfind : ∀ (Q : Handler → Pre) (E : CtlPost) (d : Bool) (acts : List Action), wp (findHandler g a) Q E e d acts ((s.setTop g).pushFrame (.throwing a)) ↔ Q (.found pc) d acts (((s.setTop g).pushFrame (.throwing a)).setVm vm'))
    (hrest : Steps tb e below ((s.setVm vm').setTop { g with pc := pc, stack := [.ref a] }) target) :
    Steps tb e below ((s.setTop g).pushFrame (.throwing a)) target := by
  obtain ⟨hgo, hw⟩ := h.throwing a
  refine Steps.head hgo hw ?_
  rw [stepThread_throwing (frames_entered h.top _), (ft_step hfind).1]
  obtain ⟨g₀, hg⟩ := Option.isSome_iff_exists.mp h.top
  obtain ⟨r, hr⟩ := State.topJava?_eq_some.mp hg
  have hr' : (s.setVm vm').frames = .java g₀ :: r := hr
  have key : ∀ X, (((s.setTop g).pushFrame (.throwing a)).setVm vm').setFrames X = (s.setVm vm').setFrames X := by
    intro X
    rw [State.pushFrame, State.setTop_of_frames _ hr, State.setFrames_setFrames]
    exact State.setFrames_setFrames (s.setVm vm') _ _
  rw [key, hr]
  rw [State.setTop_of_frames _ hr'] at hrest
  exact hrest
section FT3
variable {p : Program} {l : Launch} {e : Env} {R : Room} {s : State} {m : MethodId} {args : Array Value} {below : List Frame} {meth : Method} {c : Code} {H : Heap} {locs : List Loc} {cells slots : Nat} {Q : State → Prop}
variable {pc : Nat} {ls : Array Slot} {st : List Value}
theorem fx_catch {own name : String} {a : Addr} {s0 e1 hpc idx : Nat} (hown : s.vm.findClass own = some m.cls) (hlink : (Cond.classLink own idx name).before args s = true) (hE : hdl c = [(s0, e1, hpc, idx)]) (h1 : s0 ≤ pc) (h2 : pc < e1) (h0 : idx ≠ 0)
    (hbo : ∃ cellB : Cell, H[a]? = some cellB ∧ cellB.vm.isStatics = false ∧ s.vm.findClass name = some cellB.cls) (kk : W p l e R s m args below meth c H locs cells slots Q (F0 m hpc ls [.ref a])) : WT p l e R s m args below meth c H locs cells slots Q a (F0 m pc ls st) := by
  intro T hT X
  obtain ⟨cell, hcB, hoB, hcT⟩ := hbo
  have hpl : e.platform.magicAccessors = ({} : Platform).magicAccessors := by rw [X.admits.platform]
  obtain ⟨c', hc', hcl⟩ := Cond.classLink_spec hown hlink e.platform hpl
  cases hcT.symm.trans hc'
  obtain ⟨dk, _, _, kt, hd, _, _, _, _, hkt, _, hopen⟩ := hcl.here
  have hcl₀ := X.warmed.classLinks hcl
  have hW' : s.WarmedH (T.vm.noted m.cls idx (.cls cell.cls)) := X.warmed.noted hd hopen (State.rightAt_cls hcl)
  obtain ⟨kt', hkt', -⟩ := hW'.alike.2.2 _ _ hkt
  obtain ⟨t, b1, b2⟩ := kk (T.setVm (T.vm.noted m.cls idx (.cls cell.cls))) hT (X.noted hW')
  obtain ⟨x, hx⟩ : ∃ x, c.exceptionTable.toList = [x] := by
    cases hh : c.exceptionTable.toList with
    | nil => simp [hdl, hh] at hE
    | cons x r =>
      cases r with
      | nil => exact ⟨x, rfl⟩
      | cons y r => simp [hdl, hh] at hE
  have hq : x.startPc = s0 ∧ x.endPc = e1 ∧ x.handlerPc = hpc ∧ x.catchType = idx := by
    simp only [hdl, hx, List.map_cons, List.map_nil, List.cons.injEq, Prod.mk.injEq, and_true] at hE
    exact hE
  obtain ⟨rfl, rfl, rfl, rfl⟩ := hq
  refine ⟨t, ft_caught (vm' := T.vm.noted m.cls x.catchType (.cls cell.cls)) (pc := x.handlerPc) (g := F0 m pc ls st) X.here (fun Q E d acts => ?_) b1, b2⟩
  have hm : ((T.setTop (F0 m pc ls st)).pushFrame (.throwing a)).vm.method? (F0 m pc ls st).method = some meth := by rw [Stand.throwing_vm]; exact X.method'
  rw [W.findHandler_eq hm X.code, hx]
  refine ft_cold (by simp only [covers, Bool.and_eq_true, decide_eq_true_eq]; exact ⟨h1, h2⟩) h0 (by rw [Stand.throwing_vm]; exact resolveClass_links e.toSetting hcl₀) (by rw [Stand.throwing_vm, Vm.size_noted]; exact Nat.le_refl _) (by rw [Stand.throwing_heap, hT]; exact hcB) (fun z h => by rw [h] at hoB; cases hoB) ⟨kt', hkt'⟩ ⟨kt', hkt'⟩ (va_asg _ _)
end FT3
