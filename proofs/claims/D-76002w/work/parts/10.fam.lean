abbrev Fam : Type := va_G × List vw_C × List (ClassId × FieldType) × List (Nat × Nat) × (Nat → Nat → Nat) × (Nat → Nat) × (Nat → Nat)
abbrev Fam.D (F : Fam) : va_G := F.1
abbrev Fam.cl (F : Fam) : List vw_C := F.2.1
abbrev Fam.tys (F : Fam) : List (ClassId × FieldType) := F.2.2.1
abbrev Fam.ids (F : Fam) : List (Nat × Nat) := F.2.2.2.1
abbrev Fam.ad (F : Fam) : Nat → Nat → Nat := F.2.2.2.2.1
abbrev Fam.adK (F : Fam) : Nat → Nat := F.2.2.2.2.2.1
abbrev Fam.adV (F : Fam) : Nat → Nat := F.2.2.2.2.2.2
abbrev Ct : Type := Nat → Nat → va_E
def fl (F : Fam) (ct : Ct) : va_W := F.ids.map (fun i => (F.ad i.1 i.2, ct i.1 i.2))
def fA (F : Fam) (sz : Nat) : Nat → Prop := fun q => (∃ x, x ∈ F.ids ∧ F.ad x.1 x.2 = q) ∨ sz ≤ q
def fOK (F : Fam) : Prop := ∀ (a b : Nat) (x y : Nat × Nat), F.ids[a]? = some x → F.ids[b]? = some y → F.ad x.1 x.2 = F.ad y.1 y.2 → a = b
def stm (i : Nat) : Term := match i with
  | 0 => .string "OwlEars$Reader" 74
  | 1 => .string "OwlEarsModel" 30
  | 2 => .string "OwlEarsModel" 32
  | 3 => .string "OwlEarsModel" 34
  | 4 => .string "OwlEarsModel" 36
  | 5 => .string "OwlEarsModel" 38
  | 6 => .string "OwlEarsModel" 40
  | 7 => .string "OwlEarsModel" 42
  | 8 => .string "OwlEarsModel" 48
  | 9 => .string "OwlEarsModel" 50
  | 10 => .string "OwlEarsModel" 52
  | 11 => .string "OwlEarsModel" 54
  | 12 => .string "OwlEarsModel" 344
  | 13 => .string "OwlEarsModel" 346
  | 14 => .string "OwlEarsModel" 329
  | 15 => .string "OwlEarsModel" 335
  | 16 => .string "OwlEarsModel" 351
  | 17 => .string "OwlEarsModel" 357
  | _ => .string "OwlEarsModel" 359
def slen : List Nat := [126, 6, 4, 6, 4, 6, 5, 7, 2, 5, 4, 4, 5, 5, 4, 6, 4, 5, 3]
def sbyt : List (List Int32) := [
  [115,116,114,105,107,101,32, 115,117,114,101,32,32,32, 97,115,108,97,110,116,32, 108,97,116,101,32,32,32, 119,97,105,116,101,100,32, 108,101,97,102,115,32,32, 99,114,117,115,116,101,100, 109,111,117,115,101,32,32, 111,119,108,32,32,32,32, 115,110,111,119,32,32,32, 110,111,105,115,101,32,32, 117,112,32,32,32,32,32, 114,105,103,104,116,32,32, 100,111,119,110,32,32,32, 108,101,102,116,32,32,32, 119,97,105,116,115,32,32, 114,117,110,115,32,32,32, 112,97,117,115,101,115,32],
  [115,116,114,105,107,101], [115,117,114,101], [97,115,108,97,110,116], [108,97,116,101], [119,97,105,116,101,100], [108,101,97,102,115], [99,114,117,115,116,101,100],
  [117,112], [114,105,103,104,116], [100,111,119,110], [108,101,102,116],
  [119,97,105,116,115], [109,111,117,115,101], [114,117,110,115], [112,97,117,115,101,115], [115,110,111,119], [110,111,105,115,101], [111,119,108]]
def TB (adK : Nat → Nat) (U : State) : Prop := ∃ (s0 : State) (b0 : Addr), s0.WarmedH U.vm ∧ (∀ w ∈ lw_tbl, w.before #[Value.ref b0] s0 = true) ∧ (Jvm.Cond.and given_1 narrow_1).before #[Value.ref b0] s0 = true ∧ ∀ i, i < 19 → (stm i).eval #[Value.ref b0] s0 none [] s0 = some (.ref (adK i))
theorem TB.warm {adK : Nat → Nat} {s U : State} (hW : s.WarmedH U.vm) (h : TB adK s) : TB adK U := by
  obtain ⟨s0, b0, h1, h2⟩ := h
  exact ⟨s0, b0, State.WarmedH.trans h1 hW, h2⟩
def EV (F : Fam) (A : Nat → Prop) (U : State) (H : Heap) : Prop := TB F.adK U ∧ vk_S 19 slen sbyt F.adK F.adV A U H ∧ va_Z "java/lang/String" "COMPACT_STRINGS" "Z" (.int 1) A U H ∧ va_Zq "jdk/internal/util/Preconditions" "SIOOBE_FORMATTER" "Ljava/util/function/BiFunction;" A U H
theorem EV.warm {F : Fam} {A : Nat → Prop} {s U : State} {H : Heap} (hW : s.WarmedH U.vm) (h : EV F A s H) : EV F A U H := ⟨h.1.warm hW, h.2.1.moved hW.alike, h.2.2.1.moved hW.alike, h.2.2.2.moved hW.alike⟩
theorem EV.kept {F : Fam} {A : Nat → Prop} {U : State} {H H1 : Heap} (h : EV F A U H) (hq : ∀ a : Nat, a < H.size → ¬ A a → H1[a]? = H[a]?) : EV F A U H1 := ⟨h.1, h.2.1.kept hq, h.2.2.1.kept hq, h.2.2.2.kept hq⟩
theorem EV.narrow {F : Fam} {A B : Nat → Prop} {U : State} {H : Heap} (h : EV F A U H) (hAB : ∀ q, B q → A q) : EV F B U H := ⟨h.1, h.2.1.narrow hAB, h.2.2.1.narrow hAB, h.2.2.2.narrow hAB⟩
def fI (F : Fam) (ct : Ct) (U : State) : Prop := fOK F ∧ va_P F.D F.cl (fl F ct) U.heap ∧ va_K F.D F.cl F.tys U ∧ EV F (fA F U.heap.size) U U.heap
def fC (F : Fam) (ct : Ct) (H0 H : Heap) (locs : List Loc) : Prop := va_P F.D F.cl (fl F ct) H ∧ va_S (fA F H0.size) H0 H locs
def fX (F : Fam) (s : State) : Prop := fOK F ∧ va_K F.D F.cl F.tys s ∧ EV F (fA F s.heap.size) s s.heap
theorem fA_sub {F : Fam} {a b : Nat} (h : a ≤ b) : ∀ q, fA F b q → fA F a q := fun _ hq => hq.elim Or.inl (fun z => Or.inr (Nat.le_trans h z))
theorem fI_of {F : Fam} {ct : Ct} {s U : State} {H : Heap} {locs : List Loc} (hX : fX F s) (hC : fC F ct s.heap H locs) (hU : U.heap = H) (hW : s.WarmedH U.vm) : fI F ct U := by
  subst hU
  exact ⟨hX.1, hC.1, va_K.moved hW.alike hX.2.1, ((hX.2.2.warm hW).kept hC.2.2.1).narrow (fA_sub hC.2.1)⟩
theorem fl_at {F : Fam} {g i : Nat} (h : (g, i) ∈ F.ids) : ∃ q : Nat, F.ids[q]? = some (g, i) ∧ ∀ ct : Ct, (fl F ct)[q]? = some (F.ad g i, ct g i) := by
  obtain ⟨q, hq⟩ := List.getElem?_of_mem h
  exact ⟨q, hq, fun ct => by simp [fl, hq]⟩
theorem fl_inv {F : Fam} {ct : Ct} {k : Nat} {x : Nat × va_E} (h : (fl F ct)[k]? = some x) : ∃ i : Nat × Nat, F.ids[k]? = some i ∧ x = (F.ad i.1 i.2, ct i.1 i.2) := by
  simp only [fl, List.getElem?_map] at h
  cases hi : F.ids[k]? with
  | none => rw [hi] at h; cases h
  | some i => rw [hi] at h; exact ⟨i, rfl, (Option.some.inj h).symm⟩
theorem fD {F : Fam} (h : fOK F) (ct : Ct) (sz : Nat) : va_D (fA F sz) (fl F ct) := by
  refine ⟨fun i j x y hx hy e => ?_, fun k x hk => ?_⟩
  · obtain ⟨a, ha, rfl⟩ := fl_inv hx
    obtain ⟨b, hb, rfl⟩ := fl_inv hy
    exact h i j a b ha hb e
  · obtain ⟨a, ha, rfl⟩ := fl_inv hk
    exact Or.inl ⟨a, List.mem_of_getElem? ha, rfl⟩
def ups (F : Fam) (ct ct' : Ct) (g i : Nat) (e : va_E) : Prop := (∀ H, va_at F.D F.cl (F.ad g i, e) H → va_at F.D F.cl (F.ad g i, ct' g i) H) ∧ ∀ x ∈ F.ids, x ≠ (g, i) → ∀ H, va_at F.D F.cl (F.ad x.1 x.2, ct x.1 x.2) H → va_at F.D F.cl (F.ad x.1 x.2, ct' x.1 x.2) H
theorem fl_set {F : Fam} {ct ct' : Ct} {g i q : Nat} {e : va_E} {H : Heap} (hok : fOK F) (hq : F.ids[q]? = some (g, i)) (hu : ups F ct ct' g i e) (h : va_P F.D F.cl ((fl F ct).set q (F.ad g i, e)) H) : va_P F.D F.cl (fl F ct') H := by
  intro k x hk
  obtain ⟨a, ha, rfl⟩ := fl_inv hk
  have hlen : q < (fl F ct).length := by
    have := (List.getElem?_eq_some_iff.mp hq).1
    simpa [fl] using this
  by_cases hkq : k = q
  · subst hkq
    cases ha.symm.trans hq
    exact hu.1 H (h k (F.ad g i, e) (by rw [List.getElem?_set_self hlen]))
  · have hne : a ≠ (g, i) := fun e1 => hkq (hok k q a (g, i) ha hq (by rw [e1]))
    refine hu.2 a (List.mem_of_getElem? ha) hne H (h k _ ?_)
    rw [List.getElem?_set_ne (Ne.symm hkq)]
    simp [fl, ha]
theorem at_arr {D : va_G} {cl : List vw_C} {a n : Nat} {cA : ClassId} {f f' : Nat → Int32} (h : ∀ k, k < n → f k = f' k) (H : Heap) (x : va_at D cl (a, .inl (cA, n, .inl f)) H) : va_at D cl (a, .inl (cA, n, .inl f')) H := by
  have e : vp_cell cA (n, .inl f) = vp_cell cA (n, .inl f') := by
    show arrV cA n (fun j => .int (f j)) = arrV cA n (fun j => .int (f' j))
    have e2 : (fun j : Fin n => Value.int (f j.val)) = (fun j : Fin n => Value.int (f' j.val)) := by
      funext j
      rw [h j.val j.isLt]
    simp only [arrV, e2]
  show H[a]? = some (vp_cell cA (n, .inl f'))
  rw [← e]
  exact x
theorem at_rfl {D : va_G} {cl : List vw_C} {a : Nat} {e e' : va_E} (h : e = e') (H : Heap) (x : va_at D cl (a, e) H) : va_at D cl (a, e') H := h ▸ x
def CQ {S : Type} (val : S → Option Value) (B : S → State → Prop) (A : Nat → Prop) : Array Value → State → Outcome → State → Prop := fun _ st oc t => (∃ u : S, oc = .returned (val u) ∧ B u t) ∧ va_F A st t
def Cm {S : Type} (l : Launch) (y : MethodName) (ws : List Cond) (rm : Room) (F : Fam) (av : List Value) (ct : Ct) (val : S → Option Value) (ct' : S → Ct) : Prop :=
  ∀ sz : Nat, Met l y ws rm (va_Pc av (fun U => U.heap.size = sz ∧ fI F ct U)) (CQ val (fun u t => fI F (ct' u) t) (fA F sz)) 0 0 (fA F sz)
def Fx (p : Program) (s : State) (m : MethodId) (meth : Method) (c : Code) (b : ByteArray) (L : Nat) (ret : Option FieldType) (args : Array Value) (own : String) : Prop :=
  p.tables.exec = Jvm.exec ∧ c.code = b ∧ meth.sig.returnType = ret ∧ c.maxLocals = L ∧ s.vm.findClass own = some m.cls ∧ (∀ w ∈ lw_all, w.before args s = true) ∧ meth.locks = false
abbrev WG {S : Type} (p : Program) (l : Launch) (e : Env) (R : Room) (s : State) (m : MethodId) (args : Array Value) (below : List Frame) (meth : Method) (c : Code) (H : Heap) (locs : List Loc) (F : Fam) (val : S → Option Value) (ct' : S → Ct) (g : JFrame) : Prop :=
  W p l e R s m args below meth c H locs 0 0 (MQ below (CQ val (fun u t => fI F (ct' u) t) (fA F s.heap.size)) args s 0 0 (fA F s.heap.size)) g
theorem Cm.start {S : Type} {l : Launch} {y : MethodName} {b : ByteArray} {L : Nat} {ret : Option FieldType} {rm : Room} {F : Fam} {av : List Value} {ct : Ct} {val : S → Option Value} {ct' : S → Ct} (hy : plainName y.cls = true) (hL : (lg_sl av).length ≤ L)
    (body : ∀ (p : Program) (e : Env) (s : State) (m : MethodId) (below : List Frame) (meth : Method) (c : Code), Fx p s m meth c b L ret av.toArray y.cls → fX F s → fC F ct s.heap s.heap [] → ∀ ls : Array Slot, lv_has ls L (lv_args 0 av) → WG p l e rm s m av.toArray below meth c s.heap [] F val ct' (F0 m 0 ls [])) : Cm l y (ws_ y b L ret) rm F av ct val ct' := by
  intro sz
  refine Met.ofW (cc := b) (maxL := L) (ret := ret) hy rfl ?_
  intro p e s m args below meth c s₁ B hml hv
  obtain ⟨rfl, hsz, hok, hP, hK, hE⟩ := hv
  subst hsz
  have hts := atoms_spec (ws := ws_ y b L ret) B.pre
  have hts : ∀ w ∈ lw_all, w.before _ s = true := fun w h => hts w (List.mem_cons_of_mem _ h)
  rw [lg_entry_eq]
  exact body p e s m below meth c ⟨B.exec, B.bytes, B.returns, hml, findClass_of_methodNamed B.named, hts, B.notSynchronized⟩ ⟨hok, hK, hE⟩ ⟨hP, va_S.rf⟩ _ (lv_entry av hL)
section FAMR
variable {p : Program} {l : Launch} {e : Env} {R : Room} {s : State} {m : MethodId} {args : Array Value} {below : List Frame} {meth : Method} {c : Code} {H : Heap} {locs : List Loc} {cells slots : Nat} {Q : State → Prop}
variable {cc : ByteArray} {pc : Nat} {ls : Array Slot} {rest st0 : List Value} {F : Fam} {ct ct1 : Ct} {S : Type} {val : S → Option Value} {ct' : S → Ct}
theorem fr_i {v : Int32} (hx : p.tables.exec = Jvm.exec) (hb : c.code = cc) (hr : meth.sig.returnType = some .int) (hlocks : meth.locks = false) (hX : fX F s) (hC : fC F ct1 s.heap H locs) (u : S) (hv : val u = some (.int v)) (hct : ct1 = ct' u) (hdg : decode cc pc = .ok (.ireturn, 1)) : WG p l e R s m args below meth c H locs F val ct' (F0 m pc ls [.int v]) :=
  W.iret hx hb hr (fun t ht hW => ⟨⟨u, by rw [hv], fI_of (ct := ct' u) hX (hct ▸ hC) ht hW⟩, hC.2.F ht⟩) hC.2.2.2 hdg hlocks
theorem fr_z {v : Int32} {ty : FieldType} (hx : p.tables.exec = Jvm.exec) (hb : c.code = cc) (hr : meth.sig.returnType = some ty) (hn : narrow ty (.int v) = .int v) (hlocks : meth.locks = false) (hX : fX F s) (hC : fC F ct1 s.heap H locs) (u : S) (hv : val u = some (.int v)) (hct : ct1 = ct' u) (hdg : decode cc pc = .ok (.ireturn, 1)) : WG p l e R s m args below meth c H locs F val ct' (F0 m pc ls [.int v]) :=
  W.zret hx hb hr hn (fun t ht hW => ⟨⟨u, by rw [hv], fI_of (ct := ct' u) hX (hct ▸ hC) ht hW⟩, hC.2.F ht⟩) hC.2.2.2 hdg hlocks
theorem fr_v (hx : p.tables.exec = Jvm.exec) (hb : c.code = cc) (hr : meth.sig.returnType = none) (hlocks : meth.locks = false) (hX : fX F s) (hC : fC F ct1 s.heap H locs) (u : S) (hv : val u = none) (hct : ct1 = ct' u) (hdg : decode cc pc = .ok (.return_, 1)) : WG p l e R s m args below meth c H locs F val ct' (F0 m pc ls []) :=
  W.vret hx hb hr (fun t ht hW => ⟨⟨u, by rw [hv], fI_of (ct := ct' u) hX (hct ▸ hC) ht hW⟩, hC.2.F ht⟩) hC.2.2.2 hdg hlocks
theorem fr_l {v : Int64} (hx : p.tables.exec = Jvm.exec) (hb : c.code = cc) (hr : meth.sig.returnType = some .long) (hlocks : meth.locks = false) (hX : fX F s) (hC : fC F ct1 s.heap H locs) (u : S) (hv : val u = some (.long v)) (hct : ct1 = ct' u) (hdg : decode cc pc = .ok (.lreturn, 1)) : WG p l e R s m args below meth c H locs F val ct' (F0 m pc ls [.long v]) :=
  W.lret hx hb hr (fun t ht hW => ⟨⟨u, by rw [hv], fI_of (ct := ct' u) hX (hct ▸ hC) ht hW⟩, hC.2.F ht⟩) hC.2.2.2 hdg hlocks
theorem fr_a {v : Value} {rt : FieldType} (hx : p.tables.exec = Jvm.exec) (hb : c.code = cc) (hr : meth.sig.returnType = some rt) (hrt : (∃ n, rt = .object n) ∨ ∃ t, rt = .array t) (hvr : v = .null ∨ ∃ a, v = .ref a) (hlocks : meth.locks = false) (hX : fX F s) (hC : fC F ct1 s.heap H locs) (u : S) (hv : val u = some v) (hct : ct1 = ct' u) (hdg : decode cc pc = .ok (.areturn, 1)) : WG p l e R s m args below meth c H locs F val ct' (F0 m pc ls [v]) :=
  W.aret hx hb hr hrt hvr (fun t ht hW => ⟨⟨u, by rw [hv], fI_of (ct := ct' u) hX (hct ▸ hC) ht hW⟩, hC.2.F ht⟩) hC.2.2.2 hdg hlocks
theorem fPc_blind {av : List Value} {sz : Nat} : FrameBlind (va_Pc av (fun U => U.heap.size = sz ∧ fI F ct U)) := by
  intro a U g mk ⟨q0, q1, qo, qP, qK, qE⟩
  exact ⟨q0, q1, qo, qP, va_K.moved (u := U) (U := U.calling g mk a) (Vm.Alike.refl U.vm) qK, qE.warm (U := U.calling g mk a) (State.WarmedH.refl U)⟩
theorem fc_go {a : Array Value} (hr : va_Run p l e R s m args below meth c H locs cells slots 0 0 (F0 m pc ls st0) rest (CQ val (fun u t => fI F (ct' u) t) (fA F H.size) a) (fA F H.size)) (hC : fC F ct s.heap H locs)
    (kk : ∀ (u : S) (H1 : Heap) (locs1 : List Loc), fC F (ct' u) s.heap H1 locs1 → W p l e R s m args below meth c H1 locs1 cells slots Q (F0 m (pc + 3) ls ((val u).toList ++ rest))) : W p l e R s m args below meth c H locs cells slots Q (F0 m pc ls st0) := by
  intro T hT X
  obtain ⟨v, st₀, t, T', L, h0, X', hL, e1, e2, ⟨⟨u, hv, hb⟩, hz, hk⟩, st⟩ := hr T hT X
  cases hv
  rw [h0] at hz hk
  have hs := fA_sub (F := F) hC.2.1
  obtain ⟨t2, a1, b1⟩ := kk u T'.heap (locs ++ L) ⟨by rw [e1]; exact hb.2.1, Nat.le_trans hC.2.1 (by rw [e1]; exact hz), fun q h1 h2 => by rw [e1, hk q (Nat.lt_of_lt_of_le h1 hC.2.1) (fun z => h2 (hs q z))]; exact hC.2.2.1 q h1 h2, fun q hq => by
      rcases List.mem_append.mp hq with h | h
      · exact hC.2.2.2 q h
      · exact hs _ (hL q h)⟩ T' rfl X'
  exact ⟨t2, st t2 a1, b1⟩
theorem fc_V {own C : String} {index maxL nL : Nat} {y : MethodName} {bytes : ByteArray} {ret : Option FieldType} {rm : Room} {b : Addr} {As : List Value} (hx : p.tables.exec = Jvm.exec) (hb : c.code = cc) (hml : c.maxLocals = nL) (hown : s.vm.findClass own = some m.cls) (hts : ∀ w ∈ lw_all, w.before args s = true) (hX : fX F s) (hC : fC F ct s.heap H locs)
    (hM : Cm l y (ws_ y bytes maxL ret) rm F (.ref b :: As) ct val ct') (hw : GoodIn lw_all (wsV own index C y (ws_ y bytes maxL ret)))
    (hd : y.cls = C ∧ y.cls ≠ "java/lang/invoke/MethodHandle" ∧ y.cls ≠ "java/lang/invoke/VarHandle" ∧ (parseMethodDescriptor y.desc).map (fun d => d.parameters.length) = some As.length) (hrc : rm.cells = 0 ∧ rm.slots = 0) (hR : rm.frames + 1 ≤ R.frames ∧ 8 + (maxL + 11) + rm.locals ≤ R.locals)
    (hbo : ∃ cellB : Cell, H[b]? = some cellB ∧ cellB.vm.isStatics = false ∧ s.vm.findClass C = some cellB.cls) (hsize : ls.size = nL) (hstack : st0 = As.reverse ++ .ref b :: rest) (hW : (rest.map fun v => v.category).sum ≤ 8) (hf : cells ≤ R.cells ∧ slots ≤ R.slots) (hdg : decode cc pc = .ok (.invokevirtual index, 3))
    (kk : ∀ (u : S) (H1 : Heap) (locs1 : List Loc), fC F (ct' u) s.heap H1 locs1 → W p l e R s m args below meth c H1 locs1 cells slots Q (F0 m (pc + 3) ls ((val u).toList ++ rest))) : W p l e R s m args below meth c H locs cells slots Q (F0 m pc ls st0) :=
  fc_go (va_runV ⟨hx, hb, hml, hown, hts⟩ (hM H.size) (cwV As.length hts hw rfl hrc.1 hrc.2 hd hR) ⟨fPc_blind, hbo, fun U hU hW => ⟨rfl, by rw [hU], fI_of hX hC hU hW⟩⟩ rfl rfl hsize hstack (lv_room hW) hdg hf) hC kk
theorem fc_S {own : String} {index maxL nL : Nat} {y : MethodName} {bytes : ByteArray} {ret : Option FieldType} {rm : Room} {As : List Value} (hx : p.tables.exec = Jvm.exec) (hb : c.code = cc) (hml : c.maxLocals = nL) (hown : s.vm.findClass own = some m.cls) (hts : ∀ w ∈ lw_all, w.before args s = true) (hX : fX F s) (hC : fC F ct s.heap H locs)
    (hM : Cm l y (ws_ y bytes maxL ret) rm F As ct val ct') (hw : GoodIn lw_all (va_wsS own index y (ws_ y bytes maxL ret)))
    (hd : y.cls ≠ "java/lang/invoke/MethodHandle" ∧ y.cls ≠ "java/lang/invoke/VarHandle" ∧ (parseMethodDescriptor y.desc).map (fun d => d.parameters.length) = some As.length) (hrc : rm.cells = 0 ∧ rm.slots = 0) (hR : rm.frames + 1 ≤ R.frames ∧ 8 + (maxL + 11) + rm.locals ≤ R.locals)
    (hsize : ls.size = nL) (hstack : st0 = As.reverse ++ rest) (hW : (rest.map fun v => v.category).sum ≤ 8) (hf : cells ≤ R.cells ∧ slots ≤ R.slots) (hdg : decode cc pc = .ok (.invokestatic index, 3))
    (kk : ∀ (u : S) (H1 : Heap) (locs1 : List Loc), fC F (ct' u) s.heap H1 locs1 → W p l e R s m args below meth c H1 locs1 cells slots Q (F0 m (pc + 3) ls ((val u).toList ++ rest))) : W p l e R s m args below meth c H locs cells slots Q (F0 m pc ls st0) :=
  fc_go (va_runS ⟨hx, hb, hml, hown, hts⟩ (hM H.size) (va_cwS As.length hts hw rfl hrc.1 hrc.2 hd hR) ⟨fPc_blind, fun U hU hW => ⟨rfl, by rw [hU], fI_of hX hC hU hW⟩⟩ rfl rfl hsize hstack (lv_room hW) hdg hf) hC kk
theorem fc_SN {own host : String} {index maxL nL : Nat} {y : MethodName} {bytes : ByteArray} {ret : Option FieldType} {rm : Room} {As : List Value} (hx : p.tables.exec = Jvm.exec) (hb : c.code = cc) (hml : c.maxLocals = nL) (hown : s.vm.findClass own = some m.cls) (hts : ∀ w ∈ lw_all, w.before args s = true) (hX : fX F s) (hC : fC F ct s.heap H locs)
    (hM : Cm l y (ws_ y bytes maxL ret) rm F As ct val ct') (hl : va_Nw (.methodLinkNest own index y host) s) (h2 : Cond.static y ∈ lw_all) (h3 : Cond.initialized y.cls ∈ lw_all) (h4 : Cond.code y bytes maxL ret ∈ lw_all)
    (hd : y.cls ≠ "java/lang/invoke/MethodHandle" ∧ y.cls ≠ "java/lang/invoke/VarHandle" ∧ (parseMethodDescriptor y.desc).map (fun d => d.parameters.length) = some As.length) (hrc : rm.cells = 0 ∧ rm.slots = 0) (hR : rm.frames + 1 ≤ R.frames ∧ 8 + (maxL + 11) + rm.locals ≤ R.locals)
    (hsize : ls.size = nL) (hstack : st0 = As.reverse ++ rest) (hW : (rest.map fun v => v.category).sum ≤ 8) (hf : cells ≤ R.cells ∧ slots ≤ R.slots) (hdg : decode cc pc = .ok (.invokestatic index, 3))
    (kk : ∀ (u : S) (H1 : Heap) (locs1 : List Loc), fC F (ct' u) s.heap H1 locs1 → W p l e R s m args below meth c H1 locs1 cells slots Q (F0 m (pc + 3) ls ((val u).toList ++ rest))) : W p l e R s m args below meth c H locs cells slots Q (F0 m pc ls st0) :=
  fc_go (va_runSN ⟨hx, hb, hml, hown, hts⟩ (hM H.size) ⟨va_cnB As.length hts (lw_meth h4) rfl hrc.1 hrc.2 hl (hts _ h3) hd hR, hts _ h2, trivial⟩ ⟨fPc_blind, fun U hU hW => ⟨rfl, by rw [hU], fI_of hX hC hU hW⟩⟩ rfl rfl hsize hstack (lv_room hW) hdg hf) hC kk
theorem fx_recv {g i ci : Nat} {q : vw_C} {fs : List Value} (hX : fX F s) (hC : fC F ct s.heap H locs) (hi : (g, i) ∈ F.ids) (he : ct g i = .inr (ci, fs)) (hc : F.cl[ci]? = some q) : ∃ cell : Cell, H[F.ad g i]? = some cell ∧ cell.vm.isStatics = false ∧ s.vm.findClass q.1 = some cell.cls := by
  obtain ⟨k, -, hk⟩ := fl_at hi
  exact va_recv hX.2.1 hC.1 hc (by rw [hk ct, he])
theorem fg_get {own ref C : String} {T : u_T} {N ci index g i : Nat} (hx : p.tables.exec = Jvm.exec) (hb : c.code = cc) (hown : s.vm.findClass own = some m.cls) (hts : ∀ w ∈ lw_all, w.before args s = true) (hX : fX F s) (hC : fC F ct s.heap H locs) (hin : ∀ w ∈ u_ws C T N, w ∈ lw_all) (hc : F.cl[ci]? = some (C, T, N)) (hi : (g, i) ∈ F.ids) {fs : List Value} (he : ct g i = .inr (ci, fs)) (k : Nat) (hk : k < N) (hlink : Cond.fieldLink own index ref (T k).2.1 (T k).2.2.1 ∈ lw_all) (hsame : ∀ x, s.fieldFound? (T k).1 (T k).2.1 (T k).2.2.1 = some x → s.fieldFound? ref (T k).2.1 (T k).2.2.1 = some x) {v : Value} (hv : fs[k]? = some v) (hdg : decode cc pc = .ok (.getfield index, 3))
    (kk : W p l e R s m args below meth c H locs cells slots Q (F0 m (pc + 3) ls (v :: rest))) : W p l e R s m args below meth c H locs cells slots Q (F0 m pc ls (.ref (F.ad g i) :: rest)) := by
  obtain ⟨q, -, hq⟩ := fl_at hi
  exact va_get hx hb hts hin hown hX.2.1 hC.1 q (by rw [hq ct, he]) hc k hk (hts _ hlink) hsame hv hdg kk
theorem fg_getN {own ref C host : String} {T : u_T} {N ci index g i : Nat} (hx : p.tables.exec = Jvm.exec) (hb : c.code = cc) (hown : s.vm.findClass own = some m.cls) (hts : ∀ w ∈ lw_all, w.before args s = true) (hX : fX F s) (hC : fC F ct s.heap H locs) (hin : ∀ w ∈ u_ws C T N, w ∈ lw_all) (hc : F.cl[ci]? = some (C, T, N)) (hi : (g, i) ∈ F.ids) {fs : List Value} (he : ct g i = .inr (ci, fs)) (k : Nat) (hk : k < N) (hlink : va_Nw (.fieldLinkNest own index ref (T k).2.1 (T k).2.2.1 host) s) (hsame : ∀ x, s.fieldFound? (T k).1 (T k).2.1 (T k).2.2.1 = some x → s.fieldFound? ref (T k).2.1 (T k).2.2.1 = some x) {v : Value} (hv : fs[k]? = some v) (hdg : decode cc pc = .ok (.getfield index, 3))
    (kk : W p l e R s m args below meth c H locs cells slots Q (F0 m (pc + 3) ls (v :: rest))) : W p l e R s m args below meth c H locs cells slots Q (F0 m pc ls (.ref (F.ad g i) :: rest)) := by
  obtain ⟨q, -, hq⟩ := fl_at hi
  exact va_getN hx hb hts hin hown hX.2.1 hC.1 q (by rw [hq ct, he]) hc k hk (va_Nw.use rfl hlink) hsame hv hdg kk
theorem fg_put {own ref C : String} {T : u_T} {N ci index g i : Nat} (hx : p.tables.exec = Jvm.exec) (hb : c.code = cc) (hown : s.vm.findClass own = some m.cls) (hts : ∀ w ∈ lw_all, w.before args s = true) (hX : fX F s) (hC : fC F ct s.heap H locs) (hin : ∀ w ∈ u_ws C T N, w ∈ lw_all) (ty0 : Nat → FieldType) (hty : ∀ k, k < N → parseFieldDescriptor (T k).2.2.1 = some (ty0 k)) (hnm : ∀ a, a < N → ∀ b, b < N → a ≠ b → (T a).2.1 ≠ (T b).2.1) (hc : F.cl[ci]? = some (C, T, N)) (hi : (g, i) ∈ F.ids) {fs : List Value} (he : ct g i = .inr (ci, fs)) (k : Nat) (hk : k < N) (hlink : Cond.fieldLink own index ref (T k).2.1 (T k).2.2.1 ∈ lw_all) (hsame : ∀ x, s.fieldFound? (T k).1 (T k).2.1 (T k).2.2.1 = some x → s.fieldFound? ref (T k).2.1 (T k).2.2.1 = some x) (hfin : (T k).2.2.2 = false) {v : Value} (hn : narrow (ty0 k) v = v) (hfit : fits (ty0 k) v = true) (hl : k < fs.length) (ctn : Ct) (hu : ups F ct ctn g i (.inr (ci, fs.set k v))) (hdg : decode cc pc = .ok (.putfield index, 3))
    (kk : ∀ (H1 : Heap) (locs1 : List Loc), fC F ctn s.heap H1 locs1 → W p l e R s m args below meth c H1 locs1 cells slots Q (F0 m (pc + 3) ls rest)) : W p l e R s m args below meth c H locs cells slots Q (F0 m pc ls (v :: .ref (F.ad g i) :: rest)) := by
  obtain ⟨q, hq0, hq⟩ := fl_at hi
  exact va_put hx hb hts hin ty0 hty hnm hown hX.2.1 hC.1 (fD hX.1 ct s.heap.size) hC.2 q (by rw [hq ct, he]) hc k hk (hts _ hlink) hsame hfin (hty k hk) hn hfit hl hdg (fun H1 locs1 hP _ hS => kk H1 locs1 ⟨fl_set hX.1 hq0 hu hP, hS⟩)
theorem fg_putN {own ref C host : String} {T : u_T} {N ci index g i : Nat} (hx : p.tables.exec = Jvm.exec) (hb : c.code = cc) (hown : s.vm.findClass own = some m.cls) (hts : ∀ w ∈ lw_all, w.before args s = true) (hX : fX F s) (hC : fC F ct s.heap H locs) (hin : ∀ w ∈ u_ws C T N, w ∈ lw_all) (ty0 : Nat → FieldType) (hty : ∀ k, k < N → parseFieldDescriptor (T k).2.2.1 = some (ty0 k)) (hnm : ∀ a, a < N → ∀ b, b < N → a ≠ b → (T a).2.1 ≠ (T b).2.1) (hc : F.cl[ci]? = some (C, T, N)) (hi : (g, i) ∈ F.ids) {fs : List Value} (he : ct g i = .inr (ci, fs)) (k : Nat) (hk : k < N) (hlink : va_Nw (.fieldLinkNest own index ref (T k).2.1 (T k).2.2.1 host) s) (hsame : ∀ x, s.fieldFound? (T k).1 (T k).2.1 (T k).2.2.1 = some x → s.fieldFound? ref (T k).2.1 (T k).2.2.1 = some x) (hfin : (T k).2.2.2 = false) {v : Value} (hn : narrow (ty0 k) v = v) (hfit : fits (ty0 k) v = true) (hl : k < fs.length) (ctn : Ct) (hu : ups F ct ctn g i (.inr (ci, fs.set k v))) (hdg : decode cc pc = .ok (.putfield index, 3))
    (kk : ∀ (H1 : Heap) (locs1 : List Loc), fC F ctn s.heap H1 locs1 → W p l e R s m args below meth c H1 locs1 cells slots Q (F0 m (pc + 3) ls rest)) : W p l e R s m args below meth c H locs cells slots Q (F0 m pc ls (v :: .ref (F.ad g i) :: rest)) := by
  obtain ⟨q, hq0, hq⟩ := fl_at hi
  exact va_putN hx hb hts hin ty0 hty hnm hown hX.2.1 hC.1 (fD hX.1 ct s.heap.size) hC.2 q (by rw [hq ct, he]) hc k hk (va_Nw.use rfl hlink) hsame hfin (hty k hk) hn hfit hl hdg (fun H1 locs1 hP _ hS => kk H1 locs1 ⟨fl_set hX.1 hq0 hu hP, hS⟩)
theorem fg_iald {g i n t0 : Nat} {cA : ClassId} {f : Nat → Int32} (hx : p.tables.exec = Jvm.exec) (hb : c.code = cc) (hX : fX F s) (hC : fC F ct s.heap H locs) (hi : (g, i) ∈ F.ids) (he : ct g i = .inl (cA, n, .inl f)) (ht : F.tys[t0]? = some (cA, .int)) {j : Int32} (hin : vp_in j n) {v : Int32} (hv : f j.toNatClampNeg = v) (hdg : decode cc pc = .ok (.iaload, 1))
    (kk : W p l e R s m args below meth c H locs cells slots Q (F0 m (pc + 1) ls (.int v :: rest))) : W p l e R s m args below meth c H locs cells slots Q (F0 m pc ls (.int j :: .ref (F.ad g i) :: rest)) := by
  obtain ⟨q, -, hq⟩ := fl_at hi
  subst hv
  exact va_iald hx hb hX.2.1 hC.1 q t0 (by rw [hq ct, he]) ht hin hdg kk
theorem fg_bald {g i n t0 : Nat} {cA : ClassId} {f : Nat → Int32} (hx : p.tables.exec = Jvm.exec) (hb : c.code = cc) (hX : fX F s) (hC : fC F ct s.heap H locs) (hi : (g, i) ∈ F.ids) (he : ct g i = .inl (cA, n, .inl f)) (ht : F.tys[t0]? = some (cA, .byte)) {j : Int32} (hin : vp_in j n) {v : Int32} (hv : f j.toNatClampNeg = v) (hdg : decode cc pc = .ok (.baload, 1))
    (kk : W p l e R s m args below meth c H locs cells slots Q (F0 m (pc + 1) ls (.int v :: rest))) : W p l e R s m args below meth c H locs cells slots Q (F0 m pc ls (.int j :: .ref (F.ad g i) :: rest)) := by
  obtain ⟨q, -, hq⟩ := fl_at hi
  subst hv
  exact va_bald hx hb hX.2.1 hC.1 q t0 (by rw [hq ct, he]) ht hin hdg kk
theorem fg_sald {g i n t0 : Nat} {cA : ClassId} {f : Nat → Int32} (hx : p.tables.exec = Jvm.exec) (hb : c.code = cc) (hX : fX F s) (hC : fC F ct s.heap H locs) (hi : (g, i) ∈ F.ids) (he : ct g i = .inl (cA, n, .inl f)) (ht : F.tys[t0]? = some (cA, .short)) {j : Int32} (hin : vp_in j n) {v : Int32} (hv : f j.toNatClampNeg = v) (hdg : decode cc pc = .ok (.saload, 1))
    (kk : W p l e R s m args below meth c H locs cells slots Q (F0 m (pc + 1) ls (.int v :: rest))) : W p l e R s m args below meth c H locs cells slots Q (F0 m pc ls (.int j :: .ref (F.ad g i) :: rest)) := by
  obtain ⟨q, -, hq⟩ := fl_at hi
  subst hv
  exact va_sald hx hb hX.2.1 hC.1 q t0 (by rw [hq ct, he]) ht hin hdg kk
theorem fg_iast {g i n t0 : Nat} {cA : ClassId} {f : Nat → Int32} (hx : p.tables.exec = Jvm.exec) (hb : c.code = cc) (hX : fX F s) (hC : fC F ct s.heap H locs) (hi : (g, i) ∈ F.ids) (he : ct g i = .inl (cA, n, .inl f)) (ht : F.tys[t0]? = some (cA, .int)) {j v : Int32} (hin : vp_in j n) (ctn : Ct) (hu : ups F ct ctn g i (.inl (cA, n, .inl (upd f j.toNatClampNeg v)))) (hdg : decode cc pc = .ok (.iastore, 1))
    (kk : ∀ (H1 : Heap) (locs1 : List Loc), fC F ctn s.heap H1 locs1 → W p l e R s m args below meth c H1 locs1 cells slots Q (F0 m (pc + 1) ls rest)) : W p l e R s m args below meth c H locs cells slots Q (F0 m pc ls (.int v :: .int j :: .ref (F.ad g i) :: rest)) := by
  obtain ⟨q, hq0, hq⟩ := fl_at hi
  exact va_iast hx hb hX.2.1 hC.1 (fD hX.1 ct s.heap.size) hC.2 q t0 (by rw [hq ct, he]) ht hin hdg (fun H1 locs1 hP _ hS => kk H1 locs1 ⟨fl_set hX.1 hq0 hu hP, hS⟩)
theorem fg_bast {g i n t0 : Nat} {cA : ClassId} {f : Nat → Int32} (hx : p.tables.exec = Jvm.exec) (hb : c.code = cc) (hX : fX F s) (hC : fC F ct s.heap H locs) (hi : (g, i) ∈ F.ids) (he : ct g i = .inl (cA, n, .inl f)) (ht : F.tys[t0]? = some (cA, .byte)) {j v : Int32} (hin : vp_in j n) (ctn : Ct) (hu : ups F ct ctn g i (.inl (cA, n, .inl (upd f j.toNatClampNeg (vp_nar .byte v))))) (hdg : decode cc pc = .ok (.bastore, 1))
    (kk : ∀ (H1 : Heap) (locs1 : List Loc), fC F ctn s.heap H1 locs1 → W p l e R s m args below meth c H1 locs1 cells slots Q (F0 m (pc + 1) ls rest)) : W p l e R s m args below meth c H locs cells slots Q (F0 m pc ls (.int v :: .int j :: .ref (F.ad g i) :: rest)) := by
  obtain ⟨q, hq0, hq⟩ := fl_at hi
  exact va_bast hx hb hX.2.1 hC.1 (fD hX.1 ct s.heap.size) hC.2 q t0 (by rw [hq ct, he]) ht hin hdg (fun H1 locs1 hP _ hS => kk H1 locs1 ⟨fl_set hX.1 hq0 hu hP, hS⟩)
theorem fg_sast {g i n t0 : Nat} {cA : ClassId} {f : Nat → Int32} (hx : p.tables.exec = Jvm.exec) (hb : c.code = cc) (hX : fX F s) (hC : fC F ct s.heap H locs) (hi : (g, i) ∈ F.ids) (he : ct g i = .inl (cA, n, .inl f)) (ht : F.tys[t0]? = some (cA, .short)) {j v : Int32} (hin : vp_in j n) (ctn : Ct) (hu : ups F ct ctn g i (.inl (cA, n, .inl (upd f j.toNatClampNeg (vp_nar .short v))))) (hdg : decode cc pc = .ok (.sastore, 1))
    (kk : ∀ (H1 : Heap) (locs1 : List Loc), fC F ctn s.heap H1 locs1 → W p l e R s m args below meth c H1 locs1 cells slots Q (F0 m (pc + 1) ls rest)) : W p l e R s m args below meth c H locs cells slots Q (F0 m pc ls (.int v :: .int j :: .ref (F.ad g i) :: rest)) := by
  obtain ⟨q, hq0, hq⟩ := fl_at hi
  exact va_sast hx hb hX.2.1 hC.1 (fD hX.1 ct s.heap.size) hC.2 q t0 (by rw [hq ct, he]) ht hin hdg (fun H1 locs1 hP _ hS => kk H1 locs1 ⟨fl_set hX.1 hq0 hu hP, hS⟩)
theorem fg_alen {g i t0 : Nat} {cA : ClassId} {x : vp_A} {ty : FieldType} (hx : p.tables.exec = Jvm.exec) (hb : c.code = cc) (hX : fX F s) (hC : fC F ct s.heap H locs) (hi : (g, i) ∈ F.ids) (he : ct g i = .inl (cA, x)) (ht : F.tys[t0]? = some (cA, ty)) {v : Int32} (hv : Int32.ofNat x.1 = v) (hdg : decode cc pc = .ok (.arraylength, 1))
    (kk : W p l e R s m args below meth c H locs cells slots Q (F0 m (pc + 1) ls (.int v :: rest))) : W p l e R s m args below meth c H locs cells slots Q (F0 m pc ls (.ref (F.ad g i) :: rest)) := by
  obtain ⟨q, -, hq⟩ := fl_at hi
  exact va_alen hx hb hX.2.1 hC.1 q t0 (by rw [hq ct, he]) ht hv hdg kk
theorem fg_aldq {g i n t0 : Nat} {cA : ClassId} {C : String} {f : Nat → Option Nat} (hx : p.tables.exec = Jvm.exec) (hb : c.code = cc) (hX : fX F s) (hC : fC F ct s.heap H locs) (hi : (g, i) ∈ F.ids) (he : ct g i = .inl (cA, n, .inr (.inr (.inr (.inr f))))) (ht : F.tys[t0]? = some (cA, .object C)) {j : Int32} (hin : vp_in j n) {v : Value} (hv : va_rf (f j.toNatClampNeg) = v) (hdg : decode cc pc = .ok (.aaload, 1))
    (kk : W p l e R s m args below meth c H locs cells slots Q (F0 m (pc + 1) ls (v :: rest))) : W p l e R s m args below meth c H locs cells slots Q (F0 m pc ls (.int j :: .ref (F.ad g i) :: rest)) := by
  obtain ⟨q, -, hq⟩ := fl_at hi
  subst hv
  exact va_aldq hx hb hX.2.1 hC.1 q t0 (by rw [hq ct, he]) ht hin hdg kk
end FAMR
def b2i (q : Prop) [Decidable q] : Int32 := if q then 1 else 0
