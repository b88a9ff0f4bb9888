def PT (x : Value) (N m : Nat) (n0 : Value) (fs : List Value) : Prop := vp_V fs 0 = n0 ∧ ∀ j, 1 ≤ j → j < N → vp_V fs j = x ∨ (j < m ∧ vp_V fs j = .null)
def ptl (iS : Nat → Nat) (N k : Nat) (v : Value) (fs : List Value) : List Value := (List.range N).map (fun j => if iS j = iS k then v else vp_V fs j)
theorem ptl_at {iS : Nat → Nat} {N k j : Nat} {v : Value} {fs : List Value} (hj : j < N) : vp_V (ptl iS N k v fs) j = if iS j = iS k then v else vp_V fs j := by
  unfold ptl vp_V
  rw [List.getD_eq_getElem?_getD, List.getElem?_map, List.getElem?_range hj]
  rfl
theorem PT.put {x n0 : Value} {N k : Nat} {fs : List Value} {iS : Nat → Nat} (h : PT x N (k + 1) n0 fs) (hN : 0 < N) (h0 : iS 0 ≠ iS k) : PT x N k n0 (ptl iS N k x fs) := by
  refine ⟨?_, fun j h1 h2 => ?_⟩
  · rw [ptl_at hN, if_neg h0]
    exact h.1
  · rw [ptl_at h2]
    by_cases e : iS j = iS k
    · exact Or.inl (if_pos e)
    · rw [if_neg e]
      rcases h.2 j h1 h2 with q | ⟨q1, q2⟩
      · exact Or.inl q
      · have : j ≠ k := fun z => e (by rw [z])
        exact Or.inr ⟨by omega, q2⟩
theorem PT.num {x n0 v : Value} {N : Nat} {fs : List Value} {iS : Nat → Nat} (h : PT x (N + 1) 1 n0 fs) (h0 : ∀ j, 1 ≤ j → j < N + 1 → iS j ≠ iS 0) : ptl iS (N + 1) 0 v fs = v :: List.replicate N x := by
  refine List.ext_getElem? (fun j => ?_)
  unfold ptl
  rw [List.getElem?_map]
  by_cases hj : j < N + 1
  · rw [List.getElem?_range hj]
    cases j with
    | zero => show some (if iS 0 = iS 0 then v else vp_V fs 0) = some v; rw [if_pos rfl]
    | succ j =>
      rw [List.getElem?_cons_succ, List.getElem?_replicate, if_pos (by omega)]
      show some (if iS (j + 1) = iS 0 then v else vp_V fs (j + 1)) = some x
      rw [if_neg (h0 (j + 1) (by omega) hj)]
      rcases h.2 (j + 1) (by omega) hj with q | ⟨q, _⟩
      · rw [q]
      · omega
  · rw [List.getElem?_eq_none (by rw [List.length_range]; omega)]
    cases j with
    | zero => omega
    | succ j =>
      rw [List.getElem?_cons_succ, List.getElem?_replicate, if_neg (by omega)]
      rfl
section PTR
variable {p : Program} {l : Launch} {e : Env} {R : Room} {s : State} {m : MethodId} {args : Array Value} {below : List Frame} {meth : Method} {c : Code} {H : Heap} {locs : List Loc} {cells slots : Nat} {Q : State → Prop}
variable {cc : ByteArray} {pc : Nat} {ls : Array Slot} {rest st0 : List Value} {X : NX} {base a : Nat} {w : va_W}
theorem nn_apart {C : String} {T : u_T} {N ci : Nat} (hts : ∀ w ∈ lw_all, w.before args s = true) (hX : nX X base s) (hin : ∀ w ∈ u_ws C T N, w ∈ lw_all) (ty : Nat → FieldType) (hty : ∀ k, k < N → parseFieldDescriptor (T k).2.2.1 = some (ty k)) (hc : X.cl[ci]? = some (C, T, N)) {x y : Nat} (hx : x < N) (hy : y < N) (hne : (T x).2.1 ≠ (T y).2.1) : X.D.2 ci x ≠ X.D.2 ci y := by
  obtain ⟨hS, -⟩ := hX.2.1.1 ci _ hc
  obtain ⟨_, _, _, fa, hia, ea⟩ := hS x hx
  obtain ⟨_, _, _, fb, hib, eb⟩ := hS y hy
  rw [← ea, ← eb]
  refine u_apart (u_lays hts hin hx) (u_lays hts hin hy) hia hib ?_
  rw [(State.fieldFound?_type hia (hty x hx)).1, (State.fieldFound?_type hib (hty y hy)).1]
  exact hne
theorem nn_putX {own ref C : String} {T : u_T} {N ci index : Nat} (hx : p.tables.exec = Jvm.exec) (hb : c.code = cc) (hown : s.vm.findClass own = some m.cls) (hts : ∀ w ∈ lw_all, w.before args s = true) (hX : nX X base s) {fs : List Value} (hC : nC X base (w ++ [(a, .inr (ci, fs))]) s.heap H locs) (hin : ∀ w ∈ u_ws C T N, w ∈ lw_all) (ty0 : Nat → FieldType) (hty : ∀ k, k < N → parseFieldDescriptor (T k).2.2.1 = some (ty0 k)) (hc : X.cl[ci]? = some (C, T, N)) (k : Nat) (hk : k < N) (hlink : Cond.fieldLink own index ref (T k).2.1 (T k).2.2.1 ∈ lw_all) (hsame : ∀ x, s.fieldFound? (T k).1 (T k).2.1 (T k).2.2.1 = some x → s.fieldFound? ref (T k).2.1 (T k).2.2.1 = some x) (hfin : (T k).2.2.2 = true) (hin2 : meth.name = "<init>") (hdecl : (T k).1 = own) {v : Value} (hn : narrow (ty0 k) v = v) (hfit : fits (ty0 k) v = true) (hdg : decode cc pc = .ok (.putfield index, 3))
    (kk : ∀ (H1 : Heap) (locs1 : List Loc), nC X base (w ++ [(a, .inr (ci, ptl (X.D.2 ci) N k v fs))]) s.heap H1 locs1 → W p l e R s m args below meth c H1 locs1 cells slots Q (F0 m (pc + 3) ls rest)) : W p l e R s m args below meth c H locs cells slots Q (F0 m pc ls (v :: .ref a :: rest)) := by
  have he : (w ++ [(a, .inr (ci, fs))])[w.length + 0]? = some (a, .inr (ci, fs)) := nth_r (w := w) (k := 0) rfl
  obtain ⟨r, h1, cell, q1, q2, q3, q4⟩ := hC.1 _ _ he
  have hr : r = (C, T, N) := Option.some.inj (h1.symm.trans hc)
  subst hr
  obtain ⟨hS, hfc, kC, hkC, hkind⟩ := hX.2.1.1 ci _ hc
  obtain ⟨cf, kf, fi, f, hi, hsl⟩ := hS k hk
  have hlay := hts _ (hin _ (u_in_lay hk))
  unfold u_lay at hlay
  rw [if_pos hfin] at hlay
  have hst := (u_facts hfc hkC (u_lays hts hin hk) hi).1
  have hcf : m.cls = cf := by
    obtain ⟨_, _, c', _, _, _, -, -, hf', -, -, -, hown2, -⟩ := Cond.laysFinal_spec hlay
    have e1 : c' = cf := by have := hi.symm.trans hf'; simp at this; exact this.1.symm
    rw [hdecl] at hown2
    rw [← e1]; exact Option.some.inj (hown.symm.trans hown2)
  have h6 := u_fits hfc hkC hkind (Or.inr hlay) hi (hty k hk) hn hfit
  refine W.putFinK hx hb hown (hts _ hlink) (hsame _ hi) hst hcf hin2 (by rw [q2]; exact h6) q1 q3 (by rw [hsl]; exact k2_hasslot (q4 k hk)) rfl rfl hdg fun H' e1 e2 e3 => ?_
  rw [hsl] at e1 ⊢
  have hlt : X.D.2 ci k < cell.slots.size := k2_hasslot (q4 k hk)
  have hnew : va_at X.D X.cl (a, .inr (ci, ptl (X.D.2 ci) N k v fs)) H' := by
    refine ⟨_, hc, _, e1, q2, q3, fun j hj => ?_⟩
    show (cell.setSlot (X.D.2 ci k) v).slots[X.D.2 ci j]? = some (vp_V (ptl (X.D.2 ci) N k v fs) j)
    rw [ptl_at hj]
    simp only [Cell.setSlot, Array.getElem?_setIfInBounds]
    by_cases e : X.D.2 ci j = X.D.2 ci k
    · rw [if_pos e.symm, if_pos e, if_pos hlt]
    · rw [if_neg (fun z => e z.symm), if_neg e]
      exact q4 j hj
  refine kk H' _ ⟨?_, ?_, hC.2.2.put e2 e3 (hC.2.1.2 _ _ he)⟩
  · have := hC.1.set hC.2.1 he hnew e3
    rw [set_r] at this
    exact this
  · have := hC.2.1.set (e := .inr (ci, ptl (X.D.2 ci) N k v fs)) he
    rw [set_r] at this
    exact this
end PTR
theorem hdI_X6_init : yX6_init.cls ≠ "java/lang/invoke/MethodHandle" ∧ yX6_init.cls ≠ "java/lang/invoke/VarHandle" ∧ (parseMethodDescriptor yX6_init.desc).map (fun d => d.parameters.length) = some 2 := by decide +kernel
theorem hdI_X8_init : yX8_init.cls ≠ "java/lang/invoke/MethodHandle" ∧ yX8_init.cls ≠ "java/lang/invoke/VarHandle" ∧ (parseMethodDescriptor yX8_init.desc).map (fun d => d.parameters.length) = some 2 := by decide +kernel
theorem hdI_X7_init : yX7_init.cls ≠ "java/lang/invoke/MethodHandle" ∧ yX7_init.cls ≠ "java/lang/invoke/VarHandle" ∧ (parseMethodDescriptor yX7_init.desc).map (fun d => d.parameters.length) = some 2 := by decide +kernel
theorem hdI_X9_init : yX9_init.cls ≠ "java/lang/invoke/MethodHandle" ∧ yX9_init.cls ≠ "java/lang/invoke/VarHandle" ∧ (parseMethodDescriptor yX9_init.desc).map (fun d => d.parameters.length) = some 2 := by decide +kernel
theorem tyR {T : u_T} {N k x : Nat} {ty : Nat → FieldType} (hty : ∀ k, k < N → parseFieldDescriptor (T k).2.2.1 = some (ty k)) (hk : k < N) (h : (T k).2.2.1 = "LOwlEars;") : narrow (ty k) (.ref x) = .ref x ∧ fits (ty k) (.ref x) = true := by
  have e := hty k hk
  rw [h, show parseFieldDescriptor "LOwlEars;" = some (.object "OwlEars") by decide +kernel] at e
  rw [← Option.some.inj e]
  exact ⟨rfl, rfl⟩
theorem tyI {T : u_T} {N k : Nat} {n : Int32} {ty : Nat → FieldType} (hty : ∀ k, k < N → parseFieldDescriptor (T k).2.2.1 = some (ty k)) (hk : k < N) (h : (T k).2.2.1 = "I") : narrow (ty k) (.int n) = .int n ∧ fits (ty k) (.int n) = true := by
  have e := hty k hk
  rw [h, show parseFieldDescriptor "I" = some .int by decide +kernel] at e
  rw [← Option.some.inj e]
  exact ⟨rfl, rfl⟩
set_option maxRecDepth 100000 in
theorem i_X6_init {l : Launch} {D : va_G} {ca : Nat → ClassId} {adK adV : Nat → Nat} {base : Nat} {w : va_W} {a x ci N : Nat} {C : String} {T : u_T} {n : Int32} {fs : List Value} (hc : clC[ci]? = some (C, T, N)) (hin : ∀ w ∈ u_ws C T N, w ∈ lw_all) (ty : Nat → FieldType) (hty : ∀ k, k < N → parseFieldDescriptor (T k).2.2.1 = some (ty k)) (hnm : (T 0).2.1 = "number" ∧ ∀ j, 1 ≤ j → j < N → (T j).2.1 = "this$0") (t0 : T 0 = ("OwlEars$Strike", "number", "I", true)) (t1 : T 1 = ("OwlEars$Strike", "this$0", "LOwlEars;", true)) (hN : 2 ≤ N) (hf : PT (.ref x) N 2 (.int 0) fs) : Cn l yX6_init (ws_ yX6_init cX6_init 3 none) ({ frames := 1, cells := 0, slots := 0, locals := 15 }) (xC ca D adK adV) base [.ref a, .ref x, .int n] (w ++ [(a, .inr (ci, fs))]) (fun _ : Unit => none) (fun _ => w ++ [(a, .inr (ci, .int n :: List.replicate (N - 1) (.ref x)))]) 0 0 := by
  refine Cn.start (by decide) (Nat.le_of_ble_eq_true rfl) ?_
  intro p e s m below meth c hfx hin2 hX hC ls hl
  obtain ⟨hx, hb, hr, hml, hown, hts, hlocks⟩ := hfx
  have hl : lv_has ls 3 [(0, .ref a), (1, .ref x), (2, .int n)] := hl
  have hown : s.vm.findClass "OwlEars$Strike" = some m.cls := hown
  have hin2 : meth.name = "<init>" := hin2
  refine lv_aload_n hx hb dX6_init_0 rfl (lv_at hl 0 rfl) ?_
  refine lv_aload_n hx hb dX6_init_1 rfl (lv_at hl 1 rfl) ?_
  refine nn_putX (own := "OwlEars$Strike") (ref := "OwlEars$Strike") hx hb hown hts hX hC hin ty hty hc 1 (by omega) (by rw [t1]; exact q343) (fun _ h => by rw [t1] at h ⊢; exact h) (by rw [t1]) hin2 (by rw [t1]) (tyR hty (by omega) (by rw [t1])).1 (tyR hty (by omega) (by rw [t1])).2 dX6_init_2 (fun H locs hC => ?_)
  have hf1 := hf.put (k := 1) (by omega) (nn_apart hts hX hin ty hty hc (x := 0) (y := 1) (by omega) (by omega) (by rw [hnm.1, hnm.2 1 (by omega) (by omega)]; decide))
  refine lv_aload_n hx hb dX6_init_5 rfl (lv_at hl 0 rfl) ?_
  refine W.objInit hx hb hown (hts _ q339) (hts _ q139) (hts _ q140) rfl (by rw [hml]; exact hl.1) rfl dX6_init_6 (Nat.le_of_ble_eq_true rfl) (Nat.le_of_ble_eq_true rfl) ?_
  refine W.eq (g2 := F0 m 9 ls []) rfl ?_
  refine lv_aload_n hx hb dX6_init_9 rfl (lv_at hl 0 rfl) ?_
  refine lv_iload_n hx hb dX6_init_10 rfl (lv_at hl 2 rfl) ?_
  refine nn_putX (own := "OwlEars$Strike") (ref := "OwlEars$Strike") hx hb hown hts hX hC hin ty hty hc 0 (by omega) (by rw [t0]; exact q341) (fun _ h => by rw [t0] at h ⊢; exact h) (by rw [t0]) hin2 (by rw [t0]) (tyI hty (by omega) (by rw [t0])).1 (tyI hty (by omega) (by rw [t0])).2 dX6_init_11 (fun H locs hC => ?_)
  obtain ⟨N', rfl⟩ : ∃ N', N = N' + 1 := ⟨N - 1, by omega⟩
  have e := hf1.num (v := .int n) (iS := D.2 ci) (fun j h1 h2 => (nn_apart hts hX hin ty hty hc (x := 0) (y := j) (by omega) h2 (by rw [hnm.1, hnm.2 j h1 h2]; decide)).symm)
  exact nn_vret hx hb hr hlocks hX hC () rfl (congrArg (fun z => w ++ [(a, .inr (ci, z))]) e) dX6_init_14
set_option maxRecDepth 100000 in
theorem i_X7_init {l : Launch} {D : va_G} {ca : Nat → ClassId} {adK adV : Nat → Nat} {base : Nat} {w : va_W} {a x ci N : Nat} {C : String} {T : u_T} {n : Int32} {fs : List Value} (hc : clC[ci]? = some (C, T, N)) (hin : ∀ w ∈ u_ws C T N, w ∈ lw_all) (ty : Nat → FieldType) (hty : ∀ k, k < N → parseFieldDescriptor (T k).2.2.1 = some (ty k)) (hnm : (T 0).2.1 = "number" ∧ ∀ j, 1 ≤ j → j < N → (T j).2.1 = "this$0") (t0 : T 0 = ("OwlEars$Strike", "number", "I", true)) (t1 : T 1 = ("OwlEars$Strike", "this$0", "LOwlEars;", true)) (hN : 2 ≤ N) (t2 : T 2 = ("OwlEars$Sure", "this$0", "LOwlEars;", true)) (hN2 : 3 ≤ N) (hf : PT (.ref x) N 3 (.int 0) fs) : Cn l yX7_init (ws_ yX7_init cX7_init 3 none) ({ frames := 2, cells := 0, slots := 0, locals := 37 }) (xC ca D adK adV) base [.ref a, .ref x, .int n] (w ++ [(a, .inr (ci, fs))]) (fun _ : Unit => none) (fun _ => w ++ [(a, .inr (ci, .int n :: List.replicate (N - 1) (.ref x)))]) 0 0 := by
  refine Cn.start (by decide) (Nat.le_of_ble_eq_true rfl) ?_
  intro p e s m below meth c hfx hin2 hX hC ls hl
  obtain ⟨hx, hb, hr, hml, hown, hts, hlocks⟩ := hfx
  have hl : lv_has ls 3 [(0, .ref a), (1, .ref x), (2, .int n)] := hl
  have hown : s.vm.findClass "OwlEars$Sure" = some m.cls := hown
  have hin2 : meth.name = "<init>" := hin2
  refine lv_aload_n hx hb dX7_init_0 rfl (lv_at hl 0 rfl) ?_
  refine lv_aload_n hx hb dX7_init_1 rfl (lv_at hl 1 rfl) ?_
  refine nn_putX (own := "OwlEars$Sure") (ref := "OwlEars$Sure") hx hb hown hts hX hC hin ty hty hc 2 (by omega) (by rw [t2]; exact q340) (fun _ h => by rw [t2] at h ⊢; exact h) (by rw [t2]) hin2 (by rw [t2]) (tyR hty (by omega) (by rw [t2])).1 (tyR hty (by omega) (by rw [t2])).2 dX7_init_2 (fun H locs hC => ?_)
  have hf1 := hf.put (k := 2) (by omega) (nn_apart hts hX hin ty hty hc (x := 0) (y := 2) (by omega) (by omega) (by rw [hnm.1, hnm.2 2 (by omega) (by omega)]; decide))
  refine lv_aload_n hx hb dX7_init_5 rfl (lv_at hl 0 rfl) ?_
  refine lv_aload_n hx hb dX7_init_6 rfl (lv_at hl 1 rfl) ?_
  refine lv_iload_n hx hb dX7_init_7 rfl (lv_at hl 2 rfl) ?_
  refine nn_callI (As := [.ref x, .int n]) (rest := []) hx hb hml hown hts hX hC (i_X6_init hc hin ty hty hnm t0 t1 hN hf1) q336 q337 q117 q338 rfl hdI_X6_init ⟨rfl, rfl⟩ ⟨Nat.le_of_ble_eq_true rfl, Nat.le_of_ble_eq_true rfl⟩ hl.1 rfl (Nat.le_of_ble_eq_true rfl) ⟨Nat.le_of_ble_eq_true rfl, Nat.le_of_ble_eq_true rfl⟩ dX7_init_8 (fun _ H locs hC => ?_)
  exact nn_vret hx hb hr hlocks hX hC () rfl rfl dX7_init_11
set_option maxRecDepth 100000 in
theorem i_X8_init {l : Launch} {D : va_G} {ca : Nat → ClassId} {adK adV : Nat → Nat} {base : Nat} {w : va_W} {a x ci N : Nat} {C : String} {T : u_T} {n : Int32} {fs : List Value} (hc : clC[ci]? = some (C, T, N)) (hin : ∀ w ∈ u_ws C T N, w ∈ lw_all) (ty : Nat → FieldType) (hty : ∀ k, k < N → parseFieldDescriptor (T k).2.2.1 = some (ty k)) (hnm : (T 0).2.1 = "number" ∧ ∀ j, 1 ≤ j → j < N → (T j).2.1 = "this$0") (t0 : T 0 = ("OwlEars$Strike", "number", "I", true)) (t1 : T 1 = ("OwlEars$Strike", "this$0", "LOwlEars;", true)) (hN : 2 ≤ N) (t2 : T 2 = ("OwlEars$Aslant", "this$0", "LOwlEars;", true)) (hN2 : 3 ≤ N) (hf : PT (.ref x) N 3 (.int 0) fs) : Cn l yX8_init (ws_ yX8_init cX8_init 3 none) ({ frames := 2, cells := 0, slots := 0, locals := 37 }) (xC ca D adK adV) base [.ref a, .ref x, .int n] (w ++ [(a, .inr (ci, fs))]) (fun _ : Unit => none) (fun _ => w ++ [(a, .inr (ci, .int n :: List.replicate (N - 1) (.ref x)))]) 0 0 := by
  refine Cn.start (by decide) (Nat.le_of_ble_eq_true rfl) ?_
  intro p e s m below meth c hfx hin2 hX hC ls hl
  obtain ⟨hx, hb, hr, hml, hown, hts, hlocks⟩ := hfx
  have hl : lv_has ls 3 [(0, .ref a), (1, .ref x), (2, .int n)] := hl
  have hown : s.vm.findClass "OwlEars$Aslant" = some m.cls := hown
  have hin2 : meth.name = "<init>" := hin2
  refine lv_aload_n hx hb dX8_init_0 rfl (lv_at hl 0 rfl) ?_
  refine lv_aload_n hx hb dX8_init_1 rfl (lv_at hl 1 rfl) ?_
  refine nn_putX (own := "OwlEars$Aslant") (ref := "OwlEars$Aslant") hx hb hown hts hX hC hin ty hty hc 2 (by omega) (by rw [t2]; exact q357) (fun _ h => by rw [t2] at h ⊢; exact h) (by rw [t2]) hin2 (by rw [t2]) (tyR hty (by omega) (by rw [t2])).1 (tyR hty (by omega) (by rw [t2])).2 dX8_init_2 (fun H locs hC => ?_)
  have hf1 := hf.put (k := 2) (by omega) (nn_apart hts hX hin ty hty hc (x := 0) (y := 2) (by omega) (by omega) (by rw [hnm.1, hnm.2 2 (by omega) (by omega)]; decide))
  refine lv_aload_n hx hb dX8_init_5 rfl (lv_at hl 0 rfl) ?_
  refine lv_aload_n hx hb dX8_init_6 rfl (lv_at hl 1 rfl) ?_
  refine lv_iload_n hx hb dX8_init_7 rfl (lv_at hl 2 rfl) ?_
  refine nn_callI (As := [.ref x, .int n]) (rest := []) hx hb hml hown hts hX hC (i_X6_init hc hin ty hty hnm t0 t1 hN hf1) q356 q337 q117 q338 rfl hdI_X6_init ⟨rfl, rfl⟩ ⟨Nat.le_of_ble_eq_true rfl, Nat.le_of_ble_eq_true rfl⟩ hl.1 rfl (Nat.le_of_ble_eq_true rfl) ⟨Nat.le_of_ble_eq_true rfl, Nat.le_of_ble_eq_true rfl⟩ dX8_init_8 (fun _ H locs hC => ?_)
  exact nn_vret hx hb hr hlocks hX hC () rfl rfl dX8_init_11
set_option maxRecDepth 100000 in
theorem i_X11_init {l : Launch} {D : va_G} {ca : Nat → ClassId} {adK adV : Nat → Nat} {base : Nat} {w : va_W} {a x ci N : Nat} {C : String} {T : u_T} {n : Int32} {fs : List Value} (hc : clC[ci]? = some (C, T, N)) (hin : ∀ w ∈ u_ws C T N, w ∈ lw_all) (ty : Nat → FieldType) (hty : ∀ k, k < N → parseFieldDescriptor (T k).2.2.1 = some (ty k)) (hnm : (T 0).2.1 = "number" ∧ ∀ j, 1 ≤ j → j < N → (T j).2.1 = "this$0") (t0 : T 0 = ("OwlEars$Strike", "number", "I", true)) (t1 : T 1 = ("OwlEars$Strike", "this$0", "LOwlEars;", true)) (hN : 2 ≤ N) (t2 : T 2 = ("OwlEars$Leafs", "this$0", "LOwlEars;", true)) (hN2 : 3 ≤ N) (hf : PT (.ref x) N 3 (.int 0) fs) : Cn l yX11_init (ws_ yX11_init cX11_init 3 none) ({ frames := 2, cells := 0, slots := 0, locals := 37 }) (xC ca D adK adV) base [.ref a, .ref x, .int n] (w ++ [(a, .inr (ci, fs))]) (fun _ : Unit => none) (fun _ => w ++ [(a, .inr (ci, .int n :: List.replicate (N - 1) (.ref x)))]) 0 0 := by
  refine Cn.start (by decide) (Nat.le_of_ble_eq_true rfl) ?_
  intro p e s m below meth c hfx hin2 hX hC ls hl
  obtain ⟨hx, hb, hr, hml, hown, hts, hlocks⟩ := hfx
  have hl : lv_has ls 3 [(0, .ref a), (1, .ref x), (2, .int n)] := hl
  have hown : s.vm.findClass "OwlEars$Leafs" = some m.cls := hown
  have hin2 : meth.name = "<init>" := hin2
  refine lv_aload_n hx hb dX11_init_0 rfl (lv_at hl 0 rfl) ?_
  refine lv_aload_n hx hb dX11_init_1 rfl (lv_at hl 1 rfl) ?_
  refine nn_putX (own := "OwlEars$Leafs") (ref := "OwlEars$Leafs") hx hb hown hts hX hC hin ty hty hc 2 (by omega) (by rw [t2]; exact q396) (fun _ h => by rw [t2] at h ⊢; exact h) (by rw [t2]) hin2 (by rw [t2]) (tyR hty (by omega) (by rw [t2])).1 (tyR hty (by omega) (by rw [t2])).2 dX11_init_2 (fun H locs hC => ?_)
  have hf1 := hf.put (k := 2) (by omega) (nn_apart hts hX hin ty hty hc (x := 0) (y := 2) (by omega) (by omega) (by rw [hnm.1, hnm.2 2 (by omega) (by omega)]; decide))
  refine lv_aload_n hx hb dX11_init_5 rfl (lv_at hl 0 rfl) ?_
  refine lv_aload_n hx hb dX11_init_6 rfl (lv_at hl 1 rfl) ?_
  refine lv_iload_n hx hb dX11_init_7 rfl (lv_at hl 2 rfl) ?_
  refine nn_callI (As := [.ref x, .int n]) (rest := []) hx hb hml hown hts hX hC (i_X6_init hc hin ty hty hnm t0 t1 hN hf1) q395 q337 q117 q338 rfl hdI_X6_init ⟨rfl, rfl⟩ ⟨Nat.le_of_ble_eq_true rfl, Nat.le_of_ble_eq_true rfl⟩ hl.1 rfl (Nat.le_of_ble_eq_true rfl) ⟨Nat.le_of_ble_eq_true rfl, Nat.le_of_ble_eq_true rfl⟩ dX11_init_8 (fun _ H locs hC => ?_)
  exact nn_vret hx hb hr hlocks hX hC () rfl rfl dX11_init_11
set_option maxRecDepth 100000 in
theorem i_X9_init {l : Launch} {D : va_G} {ca : Nat → ClassId} {adK adV : Nat → Nat} {base : Nat} {w : va_W} {a x ci N : Nat} {C : String} {T : u_T} {n : Int32} {fs : List Value} (hc : clC[ci]? = some (C, T, N)) (hin : ∀ w ∈ u_ws C T N, w ∈ lw_all) (ty : Nat → FieldType) (hty : ∀ k, k < N → parseFieldDescriptor (T k).2.2.1 = some (ty k)) (hnm : (T 0).2.1 = "number" ∧ ∀ j, 1 ≤ j → j < N → (T j).2.1 = "this$0") (t0 : T 0 = ("OwlEars$Strike", "number", "I", true)) (t1 : T 1 = ("OwlEars$Strike", "this$0", "LOwlEars;", true)) (hN : 2 ≤ N) (t2 : T 2 = ("OwlEars$Aslant", "this$0", "LOwlEars;", true)) (hN2 : 3 ≤ N) (t3 : T 3 = ("OwlEars$Late", "this$0", "LOwlEars;", true)) (hN3 : 4 ≤ N) (hf : PT (.ref x) N 4 (.int 0) fs) : Cn l yX9_init (ws_ yX9_init cX9_init 3 none) ({ frames := 3, cells := 0, slots := 0, locals := 59 }) (xC ca D adK adV) base [.ref a, .ref x, .int n] (w ++ [(a, .inr (ci, fs))]) (fun _ : Unit => none) (fun _ => w ++ [(a, .inr (ci, .int n :: List.replicate (N - 1) (.ref x)))]) 0 0 := by
  refine Cn.start (by decide) (Nat.le_of_ble_eq_true rfl) ?_
  intro p e s m below meth c hfx hin2 hX hC ls hl
  obtain ⟨hx, hb, hr, hml, hown, hts, hlocks⟩ := hfx
  have hl : lv_has ls 3 [(0, .ref a), (1, .ref x), (2, .int n)] := hl
  have hown : s.vm.findClass "OwlEars$Late" = some m.cls := hown
  have hin2 : meth.name = "<init>" := hin2
  refine lv_aload_n hx hb dX9_init_0 rfl (lv_at hl 0 rfl) ?_
  refine lv_aload_n hx hb dX9_init_1 rfl (lv_at hl 1 rfl) ?_
  refine nn_putX (own := "OwlEars$Late") (ref := "OwlEars$Late") hx hb hown hts hX hC hin ty hty hc 3 (by omega) (by rw [t3]; exact q369) (fun _ h => by rw [t3] at h ⊢; exact h) (by rw [t3]) hin2 (by rw [t3]) (tyR hty (by omega) (by rw [t3])).1 (tyR hty (by omega) (by rw [t3])).2 dX9_init_2 (fun H locs hC => ?_)
  have hf1 := hf.put (k := 3) (by omega) (nn_apart hts hX hin ty hty hc (x := 0) (y := 3) (by omega) (by omega) (by rw [hnm.1, hnm.2 3 (by omega) (by omega)]; decide))
  refine lv_aload_n hx hb dX9_init_5 rfl (lv_at hl 0 rfl) ?_
  refine lv_aload_n hx hb dX9_init_6 rfl (lv_at hl 1 rfl) ?_
  refine lv_iload_n hx hb dX9_init_7 rfl (lv_at hl 2 rfl) ?_
  refine nn_callI (As := [.ref x, .int n]) (rest := []) hx hb hml hown hts hX hC (i_X8_init hc hin ty hty hnm t0 t1 hN t2 hN2 hf1) q368 q354 q119 q355 rfl hdI_X8_init ⟨rfl, rfl⟩ ⟨Nat.le_of_ble_eq_true rfl, Nat.le_of_ble_eq_true rfl⟩ hl.1 rfl (Nat.le_of_ble_eq_true rfl) ⟨Nat.le_of_ble_eq_true rfl, Nat.le_of_ble_eq_true rfl⟩ dX9_init_8 (fun _ H locs hC => ?_)
  exact nn_vret hx hb hr hlocks hX hC () rfl rfl dX9_init_11
set_option maxRecDepth 100000 in
theorem i_X12_init {l : Launch} {D : va_G} {ca : Nat → ClassId} {adK adV : Nat → Nat} {base : Nat} {w : va_W} {a x ci N : Nat} {C : String} {T : u_T} {n : Int32} {fs : List Value} (hc : clC[ci]? = some (C, T, N)) (hin : ∀ w ∈ u_ws C T N, w ∈ lw_all) (ty : Nat → FieldType) (hty : ∀ k, k < N → parseFieldDescriptor (T k).2.2.1 = some (ty k)) (hnm : (T 0).2.1 = "number" ∧ ∀ j, 1 ≤ j → j < N → (T j).2.1 = "this$0") (t0 : T 0 = ("OwlEars$Strike", "number", "I", true)) (t1 : T 1 = ("OwlEars$Strike", "this$0", "LOwlEars;", true)) (hN : 2 ≤ N) (t2 : T 2 = ("OwlEars$Sure", "this$0", "LOwlEars;", true)) (hN2 : 3 ≤ N) (t3 : T 3 = ("OwlEars$Crusted", "this$0", "LOwlEars;", true)) (hN3 : 4 ≤ N) (hf : PT (.ref x) N 4 (.int 0) fs) : Cn l yX12_init (ws_ yX12_init cX12_init 3 none) ({ frames := 3, cells := 0, slots := 0, locals := 59 }) (xC ca D adK adV) base [.ref a, .ref x, .int n] (w ++ [(a, .inr (ci, fs))]) (fun _ : Unit => none) (fun _ => w ++ [(a, .inr (ci, .int n :: List.replicate (N - 1) (.ref x)))]) 0 0 := by
  refine Cn.start (by decide) (Nat.le_of_ble_eq_true rfl) ?_
  intro p e s m below meth c hfx hin2 hX hC ls hl
  obtain ⟨hx, hb, hr, hml, hown, hts, hlocks⟩ := hfx
  have hl : lv_has ls 3 [(0, .ref a), (1, .ref x), (2, .int n)] := hl
  have hown : s.vm.findClass "OwlEars$Crusted" = some m.cls := hown
  have hin2 : meth.name = "<init>" := hin2
  refine lv_aload_n hx hb dX12_init_0 rfl (lv_at hl 0 rfl) ?_
  refine lv_aload_n hx hb dX12_init_1 rfl (lv_at hl 1 rfl) ?_
  refine nn_putX (own := "OwlEars$Crusted") (ref := "OwlEars$Crusted") hx hb hown hts hX hC hin ty hty hc 3 (by omega) (by rw [t3]; exact q408) (fun _ h => by rw [t3] at h ⊢; exact h) (by rw [t3]) hin2 (by rw [t3]) (tyR hty (by omega) (by rw [t3])).1 (tyR hty (by omega) (by rw [t3])).2 dX12_init_2 (fun H locs hC => ?_)
  have hf1 := hf.put (k := 3) (by omega) (nn_apart hts hX hin ty hty hc (x := 0) (y := 3) (by omega) (by omega) (by rw [hnm.1, hnm.2 3 (by omega) (by omega)]; decide))
  refine lv_aload_n hx hb dX12_init_5 rfl (lv_at hl 0 rfl) ?_
  refine lv_aload_n hx hb dX12_init_6 rfl (lv_at hl 1 rfl) ?_
  refine lv_iload_n hx hb dX12_init_7 rfl (lv_at hl 2 rfl) ?_
  refine nn_callI (As := [.ref x, .int n]) (rest := []) hx hb hml hown hts hX hC (i_X7_init hc hin ty hty hnm t0 t1 hN t2 hN2 hf1) q407 q334 q118 q335 rfl hdI_X7_init ⟨rfl, rfl⟩ ⟨Nat.le_of_ble_eq_true rfl, Nat.le_of_ble_eq_true rfl⟩ hl.1 rfl (Nat.le_of_ble_eq_true rfl) ⟨Nat.le_of_ble_eq_true rfl, Nat.le_of_ble_eq_true rfl⟩ dX12_init_8 (fun _ H locs hC => ?_)
  exact nn_vret hx hb hr hlocks hX hC () rfl rfl dX12_init_11
set_option maxRecDepth 100000 in
theorem i_X10_init {l : Launch} {D : va_G} {ca : Nat → ClassId} {adK adV : Nat → Nat} {base : Nat} {w : va_W} {a x ci N : Nat} {C : String} {T : u_T} {n : Int32} {fs : List Value} (hc : clC[ci]? = some (C, T, N)) (hin : ∀ w ∈ u_ws C T N, w ∈ lw_all) (ty : Nat → FieldType) (hty : ∀ k, k < N → parseFieldDescriptor (T k).2.2.1 = some (ty k)) (hnm : (T 0).2.1 = "number" ∧ ∀ j, 1 ≤ j → j < N → (T j).2.1 = "this$0") (t0 : T 0 = ("OwlEars$Strike", "number", "I", true)) (t1 : T 1 = ("OwlEars$Strike", "this$0", "LOwlEars;", true)) (hN : 2 ≤ N) (t2 : T 2 = ("OwlEars$Aslant", "this$0", "LOwlEars;", true)) (hN2 : 3 ≤ N) (t3 : T 3 = ("OwlEars$Late", "this$0", "LOwlEars;", true)) (hN3 : 4 ≤ N) (t4 : T 4 = ("OwlEars$Waited", "this$0", "LOwlEars;", true)) (hN4 : 5 ≤ N) (hf : PT (.ref x) N 5 (.int 0) fs) : Cn l yX10_init (ws_ yX10_init cX10_init 3 none) ({ frames := 4, cells := 0, slots := 0, locals := 81 }) (xC ca D adK adV) base [.ref a, .ref x, .int n] (w ++ [(a, .inr (ci, fs))]) (fun _ : Unit => none) (fun _ => w ++ [(a, .inr (ci, .int n :: List.replicate (N - 1) (.ref x)))]) 0 0 := by
  refine Cn.start (by decide) (Nat.le_of_ble_eq_true rfl) ?_
  intro p e s m below meth c hfx hin2 hX hC ls hl
  obtain ⟨hx, hb, hr, hml, hown, hts, hlocks⟩ := hfx
  have hl : lv_has ls 3 [(0, .ref a), (1, .ref x), (2, .int n)] := hl
  have hown : s.vm.findClass "OwlEars$Waited" = some m.cls := hown
  have hin2 : meth.name = "<init>" := hin2
  refine lv_aload_n hx hb dX10_init_0 rfl (lv_at hl 0 rfl) ?_
  refine lv_aload_n hx hb dX10_init_1 rfl (lv_at hl 1 rfl) ?_
  refine nn_putX (own := "OwlEars$Waited") (ref := "OwlEars$Waited") hx hb hown hts hX hC hin ty hty hc 4 (by omega) (by rw [t4]; exact q382) (fun _ h => by rw [t4] at h ⊢; exact h) (by rw [t4]) hin2 (by rw [t4]) (tyR hty (by omega) (by rw [t4])).1 (tyR hty (by omega) (by rw [t4])).2 dX10_init_2 (fun H locs hC => ?_)
  have hf1 := hf.put (k := 4) (by omega) (nn_apart hts hX hin ty hty hc (x := 0) (y := 4) (by omega) (by omega) (by rw [hnm.1, hnm.2 4 (by omega) (by omega)]; decide))
  refine lv_aload_n hx hb dX10_init_5 rfl (lv_at hl 0 rfl) ?_
  refine lv_aload_n hx hb dX10_init_6 rfl (lv_at hl 1 rfl) ?_
  refine lv_iload_n hx hb dX10_init_7 rfl (lv_at hl 2 rfl) ?_
  refine nn_callI (As := [.ref x, .int n]) (rest := []) hx hb hml hown hts hX hC (i_X9_init hc hin ty hty hnm t0 t1 hN t2 hN2 t3 hN3 hf1) q381 q366 q120 q367 rfl hdI_X9_init ⟨rfl, rfl⟩ ⟨Nat.le_of_ble_eq_true rfl, Nat.le_of_ble_eq_true rfl⟩ hl.1 rfl (Nat.le_of_ble_eq_true rfl) ⟨Nat.le_of_ble_eq_true rfl, Nat.le_of_ble_eq_true rfl⟩ dX10_init_8 (fun _ H locs hC => ?_)
  exact nn_vret hx hb hr hlocks hX hC () rfl rfl dX10_init_11
