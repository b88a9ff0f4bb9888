abbrev NX : Type := List vw_C × List (ClassId × FieldType) × va_G × (Nat → Nat) × (Nat → Nat)
abbrev NX.cl (X : NX) : List vw_C := X.1
abbrev NX.tys (X : NX) : List (ClassId × FieldType) := X.2.1
abbrev NX.D (X : NX) : va_G := X.2.2.1
abbrev NX.adK (X : NX) : Nat → Nat := X.2.2.2.1
abbrev NX.adV (X : NX) : Nat → Nat := X.2.2.2.2
abbrev nA (base : Nat) : Nat → Prop := fun q => base ≤ q
def NE (X : NX) (base : Nat) (U : State) (H : Heap) : Prop := TB X.adK U ∧ vk_S 19 slen sbyt X.adK X.adV (nA base) U H ∧ va_Z "java/lang/String" "COMPACT_STRINGS" "Z" (.int 1) (nA base) U H ∧ va_Zq "jdk/internal/util/Preconditions" "SIOOBE_FORMATTER" "Ljava/util/function/BiFunction;" (nA base) U H ∧ va_Zq "java/lang/Throwable" "UNASSIGNED_STACK" "[Ljava/lang/StackTraceElement;" (nA base) U H ∧ va_Zq "java/lang/Throwable" "SUPPRESSED_SENTINEL" "Ljava/util/List;" (nA base) U H
theorem NE.warm {X : NX} {base : Nat} {s U : State} {H : Heap} (hW : s.WarmedH U.vm) (h : NE X base s H) : NE X base U H := ⟨h.1.warm hW, h.2.1.moved hW.alike, h.2.2.1.moved hW.alike, h.2.2.2.1.moved hW.alike, h.2.2.2.2.1.moved hW.alike, h.2.2.2.2.2.moved hW.alike⟩
theorem NE.kept {X : NX} {base : Nat} {U : State} {H H1 : Heap} (h : NE X base U H) (hq : ∀ a : Nat, a < H.size → ¬ nA base a → H1[a]? = H[a]?) : NE X base U H1 := ⟨h.1, h.2.1.kept hq, h.2.2.1.kept hq, h.2.2.2.1.kept hq, h.2.2.2.2.1.kept hq, h.2.2.2.2.2.kept hq⟩
def NI (X : NX) (base : Nat) (w : va_W) (U : State) : Prop := base ≤ U.heap.size ∧ va_K X.D X.cl X.tys U ∧ va_P X.D X.cl w U.heap ∧ va_D (nA base) w ∧ NE X base U U.heap
def nX (X : NX) (base : Nat) (s : State) : Prop := base ≤ s.heap.size ∧ va_K X.D X.cl X.tys s ∧ NE X base s s.heap
def nC (X : NX) (base : Nat) (w : va_W) (H0 H : Heap) (locs : List Loc) : Prop := va_P X.D X.cl w H ∧ va_D (nA base) w ∧ va_S (nA base) H0 H locs
theorem nI_at {X : NX} {base : Nat} {w : va_W} {s U : State} {H : Heap} {locs : List Loc} (hX : nX X base s) (hC : nC X base w s.heap H locs) (hU : U.heap = H) (hW : s.WarmedH U.vm) : NI X base w U := by
  subst hU
  exact ⟨Nat.le_trans hX.1 hC.2.2.1, va_K.moved hW.alike hX.2.1, hC.1, hC.2.1, (hX.2.2.warm hW).kept hC.2.2.2.1⟩
def Cn {S : Type} (l : Launch) (y : MethodName) (ws : List Cond) (rm : Room) (X : NX) (base : Nat) (av : List Value) (w : va_W) (val : S → Option Value) (w' : S → va_W) (n k : Nat) : Prop :=
  Met l y ws rm (va_Pc av (NI X base w)) (CQ val (fun u t => NI X base (w' u) t) (nA base)) n k (nA base)
abbrev NG {S : Type} (p : Program) (l : Launch) (e : Env) (R : Room) (s : State) (m : MethodId) (args : Array Value) (below : List Frame) (meth : Method) (c : Code) (H : Heap) (locs : List Loc) (cells slots : Nat) (X : NX) (base : Nat) (val : S → Option Value) (w' : S → va_W) (n k : Nat) (g : JFrame) : Prop :=
  W p l e R s m args below meth c H locs cells slots (MQ below (CQ val (fun u t => NI X base (w' u) t) (nA base)) args s n k (nA base)) g
theorem Cn.start {S : Type} {l : Launch} {y : MethodName} {b : ByteArray} {L : Nat} {ret : Option FieldType} {rm : Room} {X : NX} {base : Nat} {av : List Value} {w : va_W} {val : S → Option Value} {w' : S → va_W} {n k : Nat} (hy : plainName y.cls = true) (hL : (lg_sl av).length ≤ L)
    (body : ∀ (p : Program) (e : Env) (s : State) (m : MethodId) (below : List Frame) (meth : Method) (c : Code), Fx p s m meth c b L ret av.toArray y.cls → meth.name = y.name → nX X base s → nC X base w s.heap s.heap [] → ∀ ls : Array Slot, lv_has ls L (lv_args 0 av) → NG p l e rm s m av.toArray below meth c s.heap [] 0 0 X base val w' n k (F0 m 0 ls [])) : Cn l y (ws_ y b L ret) rm X base av w val w' n k := by
  refine Met.ofW (cc := b) (maxL := L) (ret := ret) hy rfl ?_
  intro p e s m args below meth c s₁ B hml hv
  obtain ⟨rfl, hz, hK, hP, hD, hE⟩ := hv
  have hts := atoms_spec (ws := ws_ y b L ret) B.pre
  have hts : ∀ w ∈ lw_all, w.before _ s = true := fun w h => hts w (List.mem_cons_of_mem _ h)
  rw [lg_entry_eq]
  exact body p e s m below meth c ⟨B.exec, B.bytes, B.returns, hml, findClass_of_methodNamed B.named, hts, B.notSynchronized⟩ (name_of_methodNamed B.named B.method).1 ⟨hz, hK, hE⟩ ⟨hP, hD, va_S.rf⟩ _ (lv_entry av hL)
theorem nth_r {w l : va_W} {k : Nat} {x : Nat × va_E} (h : l[k]? = some x) : (w ++ l)[w.length + k]? = some x := by
  rw [List.getElem?_append_right (Nat.le_add_right _ _), Nat.add_sub_cancel_left]
  exact h
theorem set_r {w l : va_W} {k : Nat} {x : Nat × va_E} : (w ++ l).set (w.length + k) x = w ++ l.set k x := by
  rw [List.set_append_right _ _ (Nat.le_add_right _ _), Nat.add_sub_cancel_left]
theorem app_r {w l : va_W} {x : Nat × va_E} : (w ++ l) ++ [x] = w ++ (l ++ [x]) := List.append_assoc _ _ _
section NEWR
variable {p : Program} {l : Launch} {e : Env} {R : Room} {s : State} {m : MethodId} {args : Array Value} {below : List Frame} {meth : Method} {c : Code} {H : Heap} {locs : List Loc} {cells slots : Nat} {Q : State → Prop}
variable {cc : ByteArray} {pc : Nat} {ls : Array Slot} {rest st0 : List Value} {X : NX} {base a : Nat} {w w1 : va_W} {S : Type} {val : S → Option Value} {w' : S → va_W}
theorem nA_all (hX : nX X base s) : ∀ q, s.heap.size ≤ q → nA base q := fun _ h => Nat.le_trans hX.1 h
theorem nn_new {l0 : va_W} {own C : String} {T : u_T} {N ci index : Nat} (hx : p.tables.exec = Jvm.exec) (hb : c.code = cc) (hown : s.vm.findClass own = some m.cls) (hts : ∀ w ∈ lw_all, w.before args s = true) (hX : nX X base s) (hC : nC X base (w ++ l0) s.heap H locs) (hin : ∀ w ∈ u_ws C T N, w ∈ lw_all) (ty : Nat → FieldType) (hty : ∀ k, k < N → parseFieldDescriptor (T k).2.2.1 = some (ty k)) (h1 : Cond.classLink own index C ∈ lw_all) (h2 : Cond.instantiable C N ∈ lw_all) (h3 : Cond.initialized C ∈ lw_all) (hc : X.cl[ci]? = some (C, T, N)) {fs : List Value} (hfs : ∀ j, j < N → defaultValue (ty j) = vp_V fs j) (hcells : cells + 1 ≤ R.cells) (hslots : slots + N ≤ R.slots) (hdg : decode cc pc = .ok (.new index, 3))
    (kk : ∀ (q : Nat) (H1 : Heap), nC X base (w ++ (l0 ++ [(q, .inr (ci, fs))])) s.heap H1 locs → W p l e R s m args below meth c H1 locs (cells + 1) (slots + N) Q (F0 m (pc + 3) ls (.ref q :: rest))) : W p l e R s m args below meth c H locs cells slots Q (F0 m pc ls rest) :=
  va_new hx hb hts hin ty hty hown (hts _ h1) (hts _ h2) (hts _ h3) hX.2.1 hC.1 hC.2.1 hC.2.2 (nA_all hX) hc hfs hcells hslots hdg (fun q H1 hP hD hS => kk q H1 ⟨app_r ▸ hP, app_r ▸ hD, hS⟩)
theorem ra_eq {U : State} {c1 c2 : ClassId} {ty : FieldType} (h1 : va_RA U c1 ty) (h2 : va_RA U c2 ty) : c1 = c2 := by
  cases ty with
  | object C =>
    obtain ⟨_, _, _, _, _, h4⟩ := h1
    obtain ⟨_, _, _, _, _, h5⟩ := h2
    exact Option.some.inj (h4.symm.trans h5)
  | _ => exact Option.some.inj (h1.symm.trans h2)
theorem nn_newa {l0 : va_W} {atype : ArrayType} {ty : FieldType} {t0 : Nat} {cA : ClassId} (hx : p.tables.exec = Jvm.exec) (hb : c.code = cc) (hts : ∀ w ∈ lw_all, w.before args s = true) (hX : nX X base s) (hC : nC X base (w ++ l0) s.heap H locs) (harr : Cond.arrayClass (newarray.typeOf atype) ∈ lw_all) (hty : newarray.typeOf atype = ty) (ht : X.tys[t0]? = some (cA, ty))
    {n : Int32} {N' : Nat} {a0 : vp_A} (ha : ∀ cA : ClassId, vp_cell cA a0 = arrV cA N' (fun _ => defaultValue ty)) (hn : ¬ n < 0) (hN : n.toNatClampNeg = N') (hbytes : N' * componentBytes ty ≤ 536870912) (hcells : cells + 1 ≤ R.cells) (hslots : slots + N' ≤ R.slots) (hdg : decode cc pc = .ok (.newarray atype, 2))
    (kk : ∀ (q : Nat) (H1 : Heap), nC X base (w ++ (l0 ++ [(q, .inl (cA, a0))])) s.heap H1 locs → W p l e R s m args below meth c H1 locs (cells + 1) (slots + N') Q (F0 m (pc + 2) ls (.ref q :: rest))) : W p l e R s m args below meth c H locs cells slots Q (F0 m pc ls (.int n :: rest)) := by
  refine va_newa hx hb (hts _ harr) hty hX.2.1 hC.1 hC.2.1 hC.2.2 (nA_all hX) ha hn hN hbytes hcells hslots hdg (fun q cB H1 hK hP hD hS => ?_)
  have e : cB = cA := by
    refine ra_eq (hK.2 X.tys.length (cB, ty) ?_).2 (hX.2.1.2 t0 _ ht).2
    rw [List.getElem?_append_right (Nat.le_refl _), Nat.sub_self]
    rfl
  subst e
  exact kk q H1 ⟨app_r ▸ hP, app_r ▸ hD, hS⟩
theorem nn_newq {l0 : va_W} {own C : String} {index t0 : Nat} {cA : ClassId} (hx : p.tables.exec = Jvm.exec) (hb : c.code = cc) (hown : s.vm.findClass own = some m.cls) (hts : ∀ w ∈ lw_all, w.before args s = true) (hX : nX X base s) (hC : nC X base (w ++ l0) s.heap H locs) (h1 : Cond.classLink own index C ∈ lw_all) (hover : va_AO C s) (ht : X.tys[t0]? = some (cA, .object C))
    {n : Int32} {N' : Nat} (hn : ¬ n < 0) (hN : n.toNatClampNeg = N') (hbytes : N' * 4 ≤ 536870912) (hcells : cells + 1 ≤ R.cells) (hslots : slots + N' ≤ R.slots) (hdg : decode cc pc = .ok (.anewarray index, 3))
    (kk : ∀ (q : Nat) (H1 : Heap), nC X base (w ++ (l0 ++ [(q, .inl (cA, N', .inr (.inr (.inr (.inr (fun _ => none))))))])) s.heap H1 locs → W p l e R s m args below meth c H1 locs (cells + 1) (slots + N') Q (F0 m (pc + 3) ls (.ref q :: rest))) : W p l e R s m args below meth c H locs cells slots Q (F0 m pc ls (.int n :: rest)) := by
  refine va_newq hx hb hown (hts _ h1) hover hX.2.1 hC.1 hC.2.1 hC.2.2 (nA_all hX) hn hN hbytes hcells hslots hdg (fun q cB H1 hK hP hD hS => ?_)
  have e : cB = cA := by
    refine ra_eq (hK.2 X.tys.length (cB, .object C) ?_).2 (hX.2.1.2 t0 _ ht).2
    rw [List.getElem?_append_right (Nat.le_refl _), Nat.sub_self]
    rfl
  subst e
  exact kk q H1 ⟨app_r ▸ hP, app_r ▸ hD, hS⟩
theorem nn_putF {own ref C : String} {T : u_T} {N ci index : Nat} (hx : p.tables.exec = Jvm.exec) (hb : c.code = cc) (hown : s.vm.findClass own = some m.cls) (hts : ∀ w ∈ lw_all, w.before args s = true) (hX : nX X base s) (hC : nC X base w s.heap H locs) (hin : ∀ w ∈ u_ws C T N, w ∈ lw_all) (ty0 : Nat → FieldType) (hty : ∀ k, k < N → parseFieldDescriptor (T k).2.2.1 = some (ty0 k)) (hnm : ∀ a, a < N → ∀ b, b < N → a ≠ b → (T a).2.1 ≠ (T b).2.1) (q0 : Nat) {fs : List Value} (he : w[q0]? = some (a, .inr (ci, fs))) (hc : X.cl[ci]? = some (C, T, N)) (k : Nat) (hk : k < N) (hlink : Cond.fieldLink own index ref (T k).2.1 (T k).2.2.1 ∈ lw_all) (hsame : ∀ x, s.fieldFound? (T k).1 (T k).2.1 (T k).2.2.1 = some x → s.fieldFound? ref (T k).2.1 (T k).2.2.1 = some x) (hfin : (T k).2.2.2 = true) (hin2 : meth.name = "<init>") (hdecl : (T k).1 = own) {v : Value} (hn : narrow (ty0 k) v = v) (hfit : fits (ty0 k) v = true) (hl : k < fs.length) (hw : w.set q0 (a, .inr (ci, fs.set k v)) = w1) (hdg : decode cc pc = .ok (.putfield index, 3))
    (kk : ∀ (H1 : Heap) (locs1 : List Loc), nC X base w1 s.heap H1 locs1 → W p l e R s m args below meth c H1 locs1 cells slots Q (F0 m (pc + 3) ls rest)) : W p l e R s m args below meth c H locs cells slots Q (F0 m pc ls (v :: .ref a :: rest)) := by
  subst hw
  exact va_putF hx hb hts hin ty0 hty hnm hown hX.2.1 hC.1 hC.2.1 hC.2.2 q0 he hc k hk (hts _ hlink) hsame hfin hin2 hdecl (hty k hk) hn hfit hl hdg (fun H1 locs1 hP hD hS => kk H1 locs1 ⟨hP, hD, hS⟩)
theorem nn_put {own ref C : String} {T : u_T} {N ci index : Nat} (hx : p.tables.exec = Jvm.exec) (hb : c.code = cc) (hown : s.vm.findClass own = some m.cls) (hts : ∀ w ∈ lw_all, w.before args s = true) (hX : nX X base s) (hC : nC X base w s.heap H locs) (hin : ∀ w ∈ u_ws C T N, w ∈ lw_all) (ty0 : Nat → FieldType) (hty : ∀ k, k < N → parseFieldDescriptor (T k).2.2.1 = some (ty0 k)) (hnm : ∀ a, a < N → ∀ b, b < N → a ≠ b → (T a).2.1 ≠ (T b).2.1) (q0 : Nat) {fs : List Value} (he : w[q0]? = some (a, .inr (ci, fs))) (hc : X.cl[ci]? = some (C, T, N)) (k : Nat) (hk : k < N) (hlink : Cond.fieldLink own index ref (T k).2.1 (T k).2.2.1 ∈ lw_all) (hsame : ∀ x, s.fieldFound? (T k).1 (T k).2.1 (T k).2.2.1 = some x → s.fieldFound? ref (T k).2.1 (T k).2.2.1 = some x) (hfin : (T k).2.2.2 = false) {v : Value} (hn : narrow (ty0 k) v = v) (hfit : fits (ty0 k) v = true) (hl : k < fs.length) (hw : w.set q0 (a, .inr (ci, fs.set k v)) = w1) (hdg : decode cc pc = .ok (.putfield index, 3))
    (kk : ∀ (H1 : Heap) (locs1 : List Loc), nC X base w1 s.heap H1 locs1 → W p l e R s m args below meth c H1 locs1 cells slots Q (F0 m (pc + 3) ls rest)) : W p l e R s m args below meth c H locs cells slots Q (F0 m pc ls (v :: .ref a :: rest)) := by
  subst hw
  exact va_put hx hb hts hin ty0 hty hnm hown hX.2.1 hC.1 hC.2.1 hC.2.2 q0 he hc k hk (hts _ hlink) hsame hfin (hty k hk) hn hfit hl hdg (fun H1 locs1 hP hD hS => kk H1 locs1 ⟨hP, hD, hS⟩)
theorem nn_iast {t0 n : Nat} {cA : ClassId} {f : Nat → Int32} (hx : p.tables.exec = Jvm.exec) (hb : c.code = cc) (hX : nX X base s) (hC : nC X base w s.heap H locs) (q0 : Nat) (ha : w[q0]? = some (a, .inl (cA, n, .inl f))) (ht : X.tys[t0]? = some (cA, .int)) {i x : Int32} (hin : vp_in i n) (hw : w.set q0 (a, .inl (cA, n, .inl (upd f i.toNatClampNeg x))) = w1) (hdg : decode cc pc = .ok (.iastore, 1))
    (kk : ∀ (H1 : Heap) (locs1 : List Loc), nC X base w1 s.heap H1 locs1 → W p l e R s m args below meth c H1 locs1 cells slots Q (F0 m (pc + 1) ls rest)) : W p l e R s m args below meth c H locs cells slots Q (F0 m pc ls (.int x :: .int i :: .ref a :: rest)) := by
  subst hw
  exact va_iast hx hb hX.2.1 hC.1 hC.2.1 hC.2.2 q0 t0 ha ht hin hdg (fun H1 locs1 hP hD hS => kk H1 locs1 ⟨hP, hD, hS⟩)
theorem nn_get {own ref C : String} {T : u_T} {N ci index : Nat} (hx : p.tables.exec = Jvm.exec) (hb : c.code = cc) (hown : s.vm.findClass own = some m.cls) (hts : ∀ w ∈ lw_all, w.before args s = true) (hX : nX X base s) (hC : nC X base w s.heap H locs) (hin : ∀ w ∈ u_ws C T N, w ∈ lw_all) (q0 : Nat) {fs : List Value} (he : w[q0]? = some (a, .inr (ci, fs))) (hc : X.cl[ci]? = some (C, T, N)) (k : Nat) (hk : k < N) (hlink : Cond.fieldLink own index ref (T k).2.1 (T k).2.2.1 ∈ lw_all) (hsame : ∀ x, s.fieldFound? (T k).1 (T k).2.1 (T k).2.2.1 = some x → s.fieldFound? ref (T k).2.1 (T k).2.2.1 = some x) {v : Value} (hv : fs[k]? = some v) (hdg : decode cc pc = .ok (.getfield index, 3))
    (kk : W p l e R s m args below meth c H locs cells slots Q (F0 m (pc + 3) ls (v :: rest))) : W p l e R s m args below meth c H locs cells slots Q (F0 m pc ls (.ref a :: rest)) :=
  va_get hx hb hts hin hown hX.2.1 hC.1 q0 he hc k hk (hts _ hlink) hsame hv hdg kk
theorem nn_vret (hx : p.tables.exec = Jvm.exec) (hb : c.code = cc) (hr : meth.sig.returnType = none) (hlocks : meth.locks = false) (hX : nX X base s) (hC : nC X base w s.heap H locs) (u : S) (hv : val u = none) (hw : w = w' u) (hdg : decode cc pc = .ok (.return_, 1)) : NG p l e R s m args below meth c H locs cells slots X base val w' cells slots (F0 m pc ls []) := by
  subst hw
  exact W.vret hx hb hr (fun t ht hW => ⟨⟨u, by rw [hv], nI_at hX hC ht hW⟩, hC.2.2.F ht⟩) hC.2.2.2.2 hdg hlocks
theorem nPc_blind {av : List Value} : FrameBlind (va_Pc av (NI X base w)) := by
  intro a U g mk ⟨q0, q1, qK, qP, qD, qE⟩
  exact ⟨q0, q1, va_K.moved (u := U) (U := U.calling g mk a) (Vm.Alike.refl U.vm) qK, qP, qD, qE.warm (U := U.calling g mk a) (State.WarmedH.refl U)⟩
theorem ao_int {args : Array Value} {s : State} (h : (Cond.arrayOver (.array .int)).before args s = true) : ∃ (comp c : ClassId) (k : Class), s.vm.findClass "[I" = some comp ∧ s.vm.classes[c]? = some k ∧ k.kind = .array comp (.array .int) ∧ s.vm.findClass "[[I" = some c := by
  simp only [Cond.before, Cond.holds, Cond.value, beq_iff_eq] at h
  cases hc : s.vm.findClass (FieldType.array .int).toString with
  | none => simp [hc] at h
  | some comp =>
    simp only [hc, Option.bind_some, Option.bind_eq_some_iff, Option.map_eq_some_iff] at h
    obtain ⟨c, hi, k, hk, hb⟩ := h
    obtain ⟨hlt, hp, -⟩ := Array.findIdx?_eq_some_iff_getElem.mp hi
    have hkk : s.vm.classes[c] = k := (Array.getElem?_eq_some_iff.mp hk).2
    rw [hkk] at hp
    cases hkind : k.kind with
    | array component ty =>
      rw [hkind] at hb hp
      simp at hb hp
      exact ⟨comp, c, k, hc, hk, by rw [hkind, hp, hb.1], hb.2⟩
    | _ => rw [hkind] at hb; simp at hb
theorem TB.A2 {adK : Nat → Nat} {U : State} (h : TB adK U) (h1 : (Cond.arrayClass .int).before args U = true) : ∃ cA comp, va_A2 U cA comp := by
  obtain ⟨s0, b0, hW, ht, -⟩ := h
  obtain ⟨comp, c, k, e1, e2, e3, e4⟩ := ao_int (ht _ q237)
  obtain ⟨comp', kC, c0, g1, g2, g3⟩ := Cond.arrayClass_spec h1
  have hal := hW.alike
  obtain ⟨k1, hk1, e5⟩ := hal.2.2 _ _ e2
  have f1 : U.vm.findClass "[I" = some comp := by rw [hal.findClass]; exact e1
  have e6 : comp' = comp := Option.some.inj (g1.symm.trans f1)
  subst e6
  exact ⟨c, comp', k1, kC, c0, f1, hk1, by rw [e5]; exact e3, by rw [hal.findClass]; exact e4, g2, g3⟩
theorem mout_eq {k : ClassId} {h : Nat} : mout k h 4 = vp_cell k (4, .inr (.inr (.inr (.inr (fun j => some (h + 1 + j)))))) := by
  show ((((mrow k 4 .null).setSlot 0 _).setSlot 1 _).setSlot 2 _).setSlot 3 _ = _
  rfl
theorem mrow_eq {k : ClassId} : mrow k 8 (.int 0) = vp_cell k (8, .inl (fun _ => 0)) := rfl
theorem nn_multi {l0 : va_W} {own : String} {index : Nat} {ca : Nat → ClassId} (hx : p.tables.exec = Jvm.exec) (hb : c.code = cc) (hown : s.vm.findClass own = some m.cls) (hts : ∀ w ∈ lw_all, w.before args s = true) (hX : nX X base s) (hC : nC X base (w ++ l0) s.heap H locs) (hcl : Cond.classLink own index "[[I" ∈ lw_all) (ht0 : X.tys[0]? = some (ca 0, .int)) (ht1 : X.tys[1]? = some (ca 1, .array .int)) (hcells : cells + 5 ≤ R.cells) (hslots : slots + 36 ≤ R.slots) (hdg : decode cc pc = .ok (.multianewarray index 2, 4))
    (kk : ∀ (q : Nat) (H1 : Heap) (locs1 : List Loc), nC X base (w ++ (l0 ++ [(q, .inl (ca 1, 4, .inr (.inr (.inr (.inr (fun k => some (q + 1 + k))))))), (q + 1 + 0, .inl (ca 0, 8, .inl (fun _ => 0))), (q + 1 + 1, .inl (ca 0, 8, .inl (fun _ => 0))), (q + 1 + 2, .inl (ca 0, 8, .inl (fun _ => 0))), (q + 1 + 3, .inl (ca 0, 8, .inl (fun _ => 0)))])) s.heap H1 locs1 → W p l e R s m args below meth c H1 locs1 (cells + 5) (slots + 36) Q (F0 m (pc + 4) ls (.ref q :: rest))) : W p l e R s m args below meth c H locs cells slots Q (F0 m pc ls (.int 8 :: .int 4 :: rest)) := by
  obtain ⟨cA, comp, hA2⟩ := hX.2.2.1.A2 (hts _ q284)
  have e1 : comp = ca 0 := by
    obtain ⟨_, _, _, h1, -⟩ := hA2
    exact Option.some.inj (h1.symm.trans (hX.2.1.2 0 _ ht0).2)
  have e2 : cA = ca 1 := by
    obtain ⟨_, _, _, -, -, -, h4, -⟩ := hA2
    exact Option.some.inj (h4.symm.trans (hX.2.1.2 1 _ ht1).2)
  subst e1
  subst e2
  refine va_multi48 hx hb hown (hts _ hcl) hA2 hcells hslots hdg (fun H1 z o f4 r4 => ?_)
  have hbs : base ≤ H.size := Nat.le_trans hX.1 hC.2.2.1
  have hk : ∀ (k : Nat) (x : Nat × va_E), (w ++ l0)[k]? = some x → H1[x.1]? = H[x.1]? := fun k x hx => o x.1 ((hC.1 k x hx).lt)
  refine kk H.size H1 _ ?_
  have hnew : va_P X.D X.cl [(H.size, .inl (ca 1, 4, .inr (.inr (.inr (.inr (fun k => some (H.size + 1 + k))))))), (H.size + 1 + 0, .inl (ca 0, 8, .inl (fun _ => 0))), (H.size + 1 + 1, .inl (ca 0, 8, .inl (fun _ => 0))), (H.size + 1 + 2, .inl (ca 0, 8, .inl (fun _ => 0))), (H.size + 1 + 3, .inl (ca 0, 8, .inl (fun _ => 0)))] H1 := by
    intro k x hx
    match k, hx with
    | 0, hx => cases hx; exact f4.trans (congrArg some mout_eq)
    | 1, hx => cases hx; exact (r4 0 (by decide)).trans (congrArg some mrow_eq)
    | 2, hx => cases hx; exact (r4 1 (by decide)).trans (congrArg some mrow_eq)
    | 3, hx => cases hx; exact (r4 2 (by decide)).trans (congrArg some mrow_eq)
    | 4, hx => cases hx; exact (r4 3 (by decide)).trans (congrArg some mrow_eq)
    | k + 5, hx => exact absurd hx (by simp)
  have hDn : va_D (nA base) ([(H.size, .inl (ca 1, 4, .inr (.inr (.inr (.inr (fun k => some (H.size + 1 + k))))))), (H.size + 1 + 0, .inl (ca 0, 8, .inl (fun _ => 0))), (H.size + 1 + 1, .inl (ca 0, 8, .inl (fun _ => 0))), (H.size + 1 + 2, .inl (ca 0, 8, .inl (fun _ => 0))), (H.size + 1 + 3, .inl (ca 0, 8, .inl (fun _ => 0)))] : va_W) := by
    have hp : ∀ (k : Nat) (x : Nat × va_E), ([(H.size, .inl (ca 1, 4, .inr (.inr (.inr (.inr (fun k => some (H.size + 1 + k))))))), (H.size + 1 + 0, .inl (ca 0, 8, .inl (fun _ => 0))), (H.size + 1 + 1, .inl (ca 0, 8, .inl (fun _ => 0))), (H.size + 1 + 2, .inl (ca 0, 8, .inl (fun _ => 0))), (H.size + 1 + 3, .inl (ca 0, 8, .inl (fun _ => 0)))] : va_W)[k]? = some x → x.1 = H.size + k := by
      intro k x hx
      match k, hx with
      | 0, hx => cases hx; rfl
      | 1, hx => cases hx; rfl
      | 2, hx => cases hx; rfl
      | 3, hx => cases hx; rfl
      | 4, hx => cases hx; rfl
      | k + 5, hx => exact absurd hx (by simp)
    refine ⟨fun i j x y hx hy e => ?_, fun k x hx => ?_⟩
    · have := hp i x hx
      have := hp j y hy
      omega
    · have := hp k x hx
      show base ≤ x.1
      omega
  refine ⟨?_, ?_, Nat.le_trans hC.2.2.1 (by omega), fun q h1 h2 => (o q (Nat.lt_of_lt_of_le h1 hC.2.2.1)).trans (hC.2.2.2.1 q h1 h2), fun x hx => ?_⟩
  · rw [← List.append_assoc]
    exact (hC.1.kept hk).app hnew
  · rw [← List.append_assoc]
    refine va_D.app hC.2.1 hDn (fun i j x y hx hy e => ?_)
    have hlt := (hC.1 i x hx).lt
    have hge : H.size ≤ y.1 := by
      match j, hy with
      | 0, hy => cases hy; exact Nat.le_refl _
      | 1, hy => cases hy; show H.size ≤ H.size + 1 + 0; omega
      | 2, hy => cases hy; show H.size ≤ H.size + 1 + 1; omega
      | 3, hy => cases hy; show H.size ≤ H.size + 1 + 2; omega
      | 4, hy => cases hy; show H.size ≤ H.size + 1 + 3; omega
      | j + 5, hy => exact absurd hy (by simp)
    omega
  · rcases List.mem_append.mp hx with h | h
    · exact hC.2.2.2.2 x h
    · obtain ⟨j, -, rfl⟩ := List.mem_map.mp h
      exact hbs
theorem nn_go {av : Array Value} {n k : Nat} (hr : va_Run p l e R s m args below meth c H locs cells slots n k (F0 m pc ls st0) rest (CQ val (fun u t => NI X base (w' u) t) (nA base) av) (nA base)) (hC : nC X base w s.heap H locs)
    (kk : ∀ (u : S) (H1 : Heap) (locs1 : List Loc), nC X base (w' u) s.heap H1 locs1 → W p l e R s m args below meth c H1 locs1 (cells + n) (slots + k) Q (F0 m (pc + 3) ls ((val u).toList ++ rest))) : W p l e R s m args below meth c H locs cells slots Q (F0 m pc ls st0) := by
  intro T hT X'
  obtain ⟨v, st₀, t, T', L, h0, X'', hL, e1, e2, ⟨⟨u, hv, hb⟩, hz, hk⟩, st⟩ := hr T hT X'
  cases hv
  rw [h0] at hz hk
  obtain ⟨t2, a1, b1⟩ := kk u T'.heap (locs ++ L) ⟨by rw [e1]; exact hb.2.2.1, hb.2.2.2.1, Nat.le_trans hC.2.2.1 (by rw [e1]; exact hz), fun q h1 h2 => by rw [e1, hk q (Nat.lt_of_lt_of_le h1 hC.2.2.1) h2]; exact hC.2.2.2.1 q h1 h2, fun q hq => by
      rcases List.mem_append.mp hq with h | h
      · exact hC.2.2.2.2 q h
      · exact hL q h⟩ T' rfl X''
  exact ⟨t2, st t2 a1, b1⟩
theorem nn_callI {own : String} {index maxL nL n k : Nat} {y : MethodName} {bytes : ByteArray} {rm : Room} {b : Addr} {As : List Value} (hx : p.tables.exec = Jvm.exec) (hb : c.code = cc) (hml : c.maxLocals = nL) (hown : s.vm.findClass own = some m.cls) (hts : ∀ w ∈ lw_all, w.before args s = true) (hX : nX X base s) (hC : nC X base w s.heap H locs)
    (hM : Cn l y (ws_ y bytes maxL none) rm X base (.ref b :: As) w val w' n k) (h1 : Cond.methodLink own index y ∈ lw_all) (h2 : Cond.instanceMethod y ∈ lw_all) (h3 : Cond.initialized y.cls ∈ lw_all) (h4 : Cond.code y bytes maxL none ∈ lw_all) (hy1 : y.name = "<init>")
    (hd : y.cls ≠ "java/lang/invoke/MethodHandle" ∧ y.cls ≠ "java/lang/invoke/VarHandle" ∧ (parseMethodDescriptor y.desc).map (fun d => d.parameters.length) = some As.length) (hrc : rm.cells = n ∧ rm.slots = k) (hR : rm.frames + 1 ≤ R.frames ∧ 8 + (maxL + 11) + rm.locals ≤ R.locals)
    (hsize : ls.size = nL) (hstack : st0 = As.reverse ++ .ref b :: rest) (hW : (rest.map fun v => v.category).sum ≤ 8) (hf : cells + n ≤ R.cells ∧ slots + k ≤ R.slots) (hdg : decode cc pc = .ok (.invokespecial index, 3))
    (kk : ∀ (u : S) (H1 : Heap) (locs1 : List Loc), nC X base (w' u) s.heap H1 locs1 → W p l e R s m args below meth c H1 locs1 (cells + n) (slots + k) Q (F0 m (pc + 3) ls ((val u).toList ++ rest))) : W p l e R s m args below meth c H locs cells slots Q (F0 m pc ls st0) :=
  nn_go (va_runI ⟨hx, hb, hml, hown, hts⟩ hM (cwI As.length hts (lw_meth h4) rfl hrc.1 hrc.2 (hts _ h3) (hts _ h1) (hts _ h2) hy1 hd hR) ⟨nPc_blind, fun U hU hW => ⟨rfl, nI_at hX hC hU hW⟩⟩ rfl rfl hsize hstack (lv_room hW) hdg hf) hC kk
end NEWR
