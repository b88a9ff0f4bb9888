section NEWS
variable {p : Program} {l : Launch} {e : Env} {R : Room} {s : State} {m : MethodId} {args : Array Value} {below : List Frame} {meth : Method} {c : Code} {H : Heap} {locs : List Loc} {cells slots : Nat} {Q : State → Prop}
variable {cc : ByteArray} {pc : Nat} {ls : Array Slot} {rest st0 : List Value} {X : NX} {base a : Nat} {w w1 : va_W} {S : Type} {val : S → Option Value} {w' : S → va_W}
theorem nC_nil {H0 : Heap} (h : nC X base w H0 H locs) : nC X base (w ++ []) H0 H locs := by
  rw [List.append_nil]
  exact h
theorem nn_aret {v : Value} {rt : FieldType} (hx : p.tables.exec = Jvm.exec) (hb : c.code = cc) (hr : meth.sig.returnType = some rt) (hrt : ∃ n, rt = .object n) (hvr : ∃ a, v = .ref a) (hlocks : meth.locks = false) (hX : nX X base s) (hC : nC X base w s.heap H locs) (u : S) (hv : val u = some v) (hw : w = w' u) (hdg : decode cc pc = .ok (.areturn, 1)) : NG p l e R s m args below meth c H locs cells slots X base val w' cells slots (F0 m pc ls [v]) := by
  subst hw
  exact W.aret hx hb hr (Or.inl hrt) (Or.inr hvr) (fun t ht hW => ⟨⟨u, by rw [hv], nI_at hX hC ht hW⟩, hC.2.2.F ht⟩) hC.2.2.2.2 hdg hlocks
theorem nn_callV {own C : String} {index maxL nL n k : Nat} {y : MethodName} {bytes : ByteArray} {ret : Option FieldType} {rm : Room} {b : Addr} {As : List Value} (hx : p.tables.exec = Jvm.exec) (hb : c.code = cc) (hml : c.maxLocals = nL) (hown : s.vm.findClass own = some m.cls) (hts : ∀ w ∈ lw_all, w.before args s = true) (hX : nX X base s) (hC : nC X base w s.heap H locs)
    (hM : Cn l y (ws_ y bytes maxL ret) rm X base (.ref b :: As) w val w' n k) (hw : GoodIn lw_all (wsV own index C y (ws_ y bytes maxL ret)))
    (hd : y.cls = C ∧ y.cls ≠ "java/lang/invoke/MethodHandle" ∧ y.cls ≠ "java/lang/invoke/VarHandle" ∧ (parseMethodDescriptor y.desc).map (fun d => d.parameters.length) = some As.length) (hrc : rm.cells = n ∧ rm.slots = k) (hR : rm.frames + 1 ≤ R.frames ∧ 8 + (maxL + 11) + rm.locals ≤ R.locals)
    (hbo : ∃ cellB : Cell, H[b]? = some cellB ∧ cellB.vm.isStatics = false ∧ s.vm.findClass C = some cellB.cls) (hsize : ls.size = nL) (hstack : st0 = As.reverse ++ .ref b :: rest) (hW : (rest.map fun v => v.category).sum ≤ 8) (hf : cells + n ≤ R.cells ∧ slots + k ≤ R.slots) (hdg : decode cc pc = .ok (.invokevirtual index, 3))
    (kk : ∀ (u : S) (H1 : Heap) (locs1 : List Loc), nC X base (w' u) s.heap H1 locs1 → W p l e R s m args below meth c H1 locs1 (cells + n) (slots + k) Q (F0 m (pc + 3) ls ((val u).toList ++ rest))) : W p l e R s m args below meth c H locs cells slots Q (F0 m pc ls st0) :=
  nn_go (va_runV ⟨hx, hb, hml, hown, hts⟩ hM (cwV As.length hts hw rfl hrc.1 hrc.2 hd hR) ⟨nPc_blind, hbo, fun U hU hW => ⟨rfl, nI_at hX hC hU hW⟩⟩ rfl rfl hsize hstack (lv_room hW) hdg hf) hC kk
theorem nn_recv {q0 ci : Nat} {q : vw_C} {fs : List Value} (hX : nX X base s) (hC : nC X base w s.heap H locs) (hc : X.cl[ci]? = some q) (he : w[q0]? = some (a, .inr (ci, fs))) : ∃ cell : Cell, H[a]? = some cell ∧ cell.vm.isStatics = false ∧ s.vm.findClass q.1 = some cell.cls := va_recv hX.2.1 hC.1 hc he
theorem nn_aldq {t0 n : Nat} {cA : ClassId} {C : String} {f : Nat → Option Nat} (hx : p.tables.exec = Jvm.exec) (hb : c.code = cc) (hX : nX X base s) (hC : nC X base w s.heap H locs) (q0 : Nat) (ha : w[q0]? = some (a, .inl (cA, n, .inr (.inr (.inr (.inr f)))))) (ht : X.tys[t0]? = some (cA, .object C)) {i : Int32} (hin : vp_in i n) {v : Value} (hv : va_rf (f i.toNatClampNeg) = v) (hdg : decode cc pc = .ok (.aaload, 1))
    (kk : W p l e R s m args below meth c H locs cells slots Q (F0 m (pc + 1) ls (v :: rest))) : W p l e R s m args below meth c H locs cells slots Q (F0 m pc ls (.int i :: .ref a :: rest)) := by
  subst hv
  exact va_aldq hx hb hX.2.1 hC.1 q0 t0 ha ht hin hdg kk
theorem nn_astq {t0 qk ci n v q : Nat} {cA : ClassId} {r : vw_C} {vs : List Value} {f : Nat → Option Nat} (hx : p.tables.exec = Jvm.exec) (hb : c.code = cc) (hX : nX X base s) (hC : nC X base w s.heap H locs) (q0 : Nat) (ha : w[q0]? = some (a, .inl (cA, n, .inr (.inr (.inr (.inr f)))))) (ht : X.tys[t0]? = some (cA, .object r.1)) (hv : w[qk]? = some (v, .inr (ci, vs))) (hc : X.cl[ci]? = some r) {i : Int32} (hin : vp_in i n) (hq : i.toNatClampNeg = q) (hw : w.set q0 (a, .inl (cA, n, .inr (.inr (.inr (.inr (va_up f q (some v))))))) = w1) (hdg : decode cc pc = .ok (.aastore, 1))
    (kk : ∀ (H1 : Heap) (locs1 : List Loc), nC X base w1 s.heap H1 locs1 → W p l e R s m args below meth c H1 locs1 cells slots Q (F0 m (pc + 1) ls rest)) : W p l e R s m args below meth c H locs cells slots Q (F0 m pc ls (.ref v :: .int i :: .ref a :: rest)) := by
  subst hq
  subst hw
  exact va_astq hx hb hX.2.1 hC.1 hC.2.1 hC.2.2 q0 t0 qk ci ha ht hv hc hin hdg (fun H1 locs1 hP hD hS => kk H1 locs1 ⟨hP, hD, hS⟩)
theorem nn_putN {own ref C host : String} {T : u_T} {N ci index : Nat} (hx : p.tables.exec = Jvm.exec) (hb : c.code = cc) (hown : s.vm.findClass own = some m.cls) (hts : ∀ w ∈ lw_all, w.before args s = true) (hX : nX X base s) (hC : nC X base w s.heap H locs) (hin : ∀ w ∈ u_ws C T N, w ∈ lw_all) (ty0 : Nat → FieldType) (hty : ∀ k, k < N → parseFieldDescriptor (T k).2.2.1 = some (ty0 k)) (hnm : ∀ a, a < N → ∀ b, b < N → a ≠ b → (T a).2.1 ≠ (T b).2.1) (q0 : Nat) {fs : List Value} (he : w[q0]? = some (a, .inr (ci, fs))) (hc : X.cl[ci]? = some (C, T, N)) (k : Nat) (hk : k < N) (hlink : va_Nw (.fieldLinkNest own index ref (T k).2.1 (T k).2.2.1 host) s) (hsame : ∀ x, s.fieldFound? (T k).1 (T k).2.1 (T k).2.2.1 = some x → s.fieldFound? ref (T k).2.1 (T k).2.2.1 = some x) (hfin : (T k).2.2.2 = false) {v : Value} (hn : narrow (ty0 k) v = v) (hfit : fits (ty0 k) v = true) (hl : k < fs.length) (hw : w.set q0 (a, .inr (ci, fs.set k v)) = w1) (hdg : decode cc pc = .ok (.putfield index, 3))
    (kk : ∀ (H1 : Heap) (locs1 : List Loc), nC X base w1 s.heap H1 locs1 → W p l e R s m args below meth c H1 locs1 cells slots Q (F0 m (pc + 3) ls rest)) : W p l e R s m args below meth c H locs cells slots Q (F0 m pc ls (v :: .ref a :: rest)) := by
  subst hw
  exact va_putN hx hb hts hin ty0 hty hnm hown hX.2.1 hC.1 hC.2.1 hC.2.2 q0 he hc k hk (va_Nw.use rfl hlink) hsame hfin (hty k hk) hn hfit hl hdg (fun H1 locs1 hP hD hS => kk H1 locs1 ⟨hP, hD, hS⟩)
end NEWS
def SNo (j : Nat) : Nat := [1, 2, 2, 3, 4, 2, 3].getD j 0
abbrev SE (j x : Nat) (n : Int32) : va_E := .inr (6 + j, .int n :: List.replicate (SNo j) (.ref x))
theorem hdI_X10_init : yX10_init.cls ≠ "java/lang/invoke/MethodHandle" ∧ yX10_init.cls ≠ "java/lang/invoke/VarHandle" ∧ (parseMethodDescriptor yX10_init.desc).map (fun d => d.parameters.length) = some 2 := by decide +kernel
theorem hdI_X11_init : yX11_init.cls ≠ "java/lang/invoke/MethodHandle" ∧ yX11_init.cls ≠ "java/lang/invoke/VarHandle" ∧ (parseMethodDescriptor yX11_init.desc).map (fun d => d.parameters.length) = some 2 := by decide +kernel
theorem hdI_X12_init : yX12_init.cls ≠ "java/lang/invoke/MethodHandle" ∧ yX12_init.cls ≠ "java/lang/invoke/VarHandle" ∧ (parseMethodDescriptor yX12_init.desc).map (fun d => d.parameters.length) = some 2 := by decide +kernel
set_option maxRecDepth 100000 in
theorem i_X5_init {l : Launch} {D : va_G} {ca : Nat → ClassId} {adK adV : Nat → Nat} {base : Nat} {w : va_W} {a : Nat}  : Cn l yX5_init (ws_ yX5_init cX5_init 1 none) ({ frames := 1, cells := 0, slots := 0, locals := 13 }) (xC ca D adK adV) base [.ref (a)] (w ++ [(a, .inr (5, [.null]))]) (fun _ : Unit => none) (fun u => w ++ [(a, .inr (5, [.null]))]) 0 0 := by
  refine Cn.start (by decide) (Nat.le_of_ble_eq_true rfl) ?_
  intro p e s m below meth c hf hin2 hX hC ls hl
  obtain ⟨hx, hb, hr, hml, hown, hts, hlocks⟩ := hf
  have hl : lv_has ls 1 [(0, .ref (a))] := hl
  have hown : s.vm.findClass "OwlEars$Slot" = some m.cls := hown
  have hin2 : meth.name = "<init>" := hin2
  refine lv_aload_n hx hb dX5_init_0 rfl (lv_at hl 0 rfl) ?_
  refine W.objInit hx hb hown (hts _ q322) (hts _ q139) (hts _ q140) rfl (by rw [hml]; exact hl.1) rfl dX5_init_1 (Nat.le_of_ble_eq_true rfl) (Nat.le_of_ble_eq_true rfl) ?_
  refine W.eq (g2 := F0 m 4 ls []) rfl ?_
  exact nn_vret hx hb hr hlocks hX hC () rfl rfl dX5_init_4
set_option maxRecDepth 100000 in
theorem i_made_0 {l : Launch} {D : va_G} {ca : Nat → ClassId} {adK adV : Nat → Nat} {base : Nat} {w : va_W} {x : Nat} {n : Int32} : Cn l yX0_made (ws_ yX0_made cX0_made 3 (some (.object "OwlEars$Strike"))) ({ frames := 5, cells := 1, slots := 5, locals := 103 }) (xC ca D adK adV) base [.ref x, .int 0, .int n] w (fun q : Nat => some (.ref q)) (fun q => w ++ [(q, SE 0 x n)]) 1 5 := by
  refine Cn.start (by decide) (Nat.le_of_ble_eq_true rfl) ?_
  intro p e s m below meth c hfx hin2 hX hC ls hl
  obtain ⟨hx, hb, hr, hml, hown, hts, hlocks⟩ := hfx
  have hl : lv_has ls 3 [(0, .ref x), (1, .int 0), (2, .int n)] := hl
  have hown : s.vm.findClass "OwlEars" = some m.cls := hown
  refine lv_iload_n hx hb dX0_made_0 rfl (lv_at hl 1 rfl) ?_
  refine lv_tableOut (tgt := 100) hx hb dX0_made_1 (tabo 1 6 (by decide) (fun k hk => match k, hk with | 0, _ => (by decide) | 1, _ => (by decide) | 2, _ => (by decide) | 3, _ => (by decide) | 4, _ => (by decide) | 5, _ => (by decide)) rfl) (by decide) ?_
  refine nn_new (l0 := []) (C := RX6) (T := TX6) (N := 2) (ci := 6) (fs := [.int 0, .null]) hx hb hown hts hX (nC_nil hC) in_X6 tyX6 tyX6_ok q415 q416 q117 rfl (fun j hj => match j, hj with | 0, _ => rfl | 1, _ => rfl) (Nat.le_of_ble_eq_true rfl) (Nat.le_of_ble_eq_true rfl) dX0_made_100 (fun q H hC => ?_)
  have hC : nC (xC ca D adK adV) base (w ++ [(q, .inr (6, [.int 0, .null]))]) s.heap H _ := hC
  refine lv_dup hx hb dX0_made_103 rfl ?_
  refine lv_aload_n hx hb dX0_made_104 rfl (lv_at hl 0 rfl) ?_
  refine lv_iload_n hx hb dX0_made_105 rfl (lv_at hl 2 rfl) ?_
  refine nn_callI (As := [.ref x, .int n]) (rest := [.ref q]) hx hb hml hown hts hX hC (i_X6_init (T := TX6) (C := RX6) (ci := 6) rfl in_X6 tyX6 tyX6_ok ⟨rfl, fun j h1 h2 => by rw [show j = 1 by omega]; rfl⟩ rfl rfl (by decide) (⟨rfl, fun j h1 h2 => Or.inr ⟨h2, by rw [show j = 1 by omega]; rfl⟩⟩ : PT (.ref x) 2 2 (.int 0) [.int 0, .null])) q417 q337 q117 q338 rfl hdI_X6_init ⟨rfl, rfl⟩ ⟨Nat.le_of_ble_eq_true rfl, Nat.le_of_ble_eq_true rfl⟩ hl.1 rfl (Nat.le_of_ble_eq_true rfl) ⟨Nat.le_of_ble_eq_true rfl, Nat.le_of_ble_eq_true rfl⟩ dX0_made_106 (fun _ H locs hC => ?_)
  refine W.eq (g2 := F0 m 109 ls [.ref q]) rfl ?_
  refine W.widen (k := 1) (n := 5) (by decide) (by decide) ?_
  exact nn_aret hx hb hr ⟨_, rfl⟩ ⟨_, rfl⟩ hlocks hX hC q rfl rfl dX0_made_109
set_option maxRecDepth 100000 in
theorem i_made_1 {l : Launch} {D : va_G} {ca : Nat → ClassId} {adK adV : Nat → Nat} {base : Nat} {w : va_W} {x : Nat} {n : Int32} : Cn l yX0_made (ws_ yX0_made cX0_made 3 (some (.object "OwlEars$Strike"))) ({ frames := 5, cells := 1, slots := 5, locals := 103 }) (xC ca D adK adV) base [.ref x, .int 1, .int n] w (fun q : Nat => some (.ref q)) (fun q => w ++ [(q, SE 1 x n)]) 1 5 := by
  refine Cn.start (by decide) (Nat.le_of_ble_eq_true rfl) ?_
  intro p e s m below meth c hfx hin2 hX hC ls hl
  obtain ⟨hx, hb, hr, hml, hown, hts, hlocks⟩ := hfx
  have hl : lv_has ls 3 [(0, .ref x), (1, .int 1), (2, .int n)] := hl
  have hown : s.vm.findClass "OwlEars" = some m.cls := hown
  refine lv_iload_n hx hb dX0_made_0 rfl (lv_at hl 1 rfl) ?_
  refine lv_tableIn (off := 39) (tgt := 40) hx hb dX0_made_1 (by decide) (by decide) rfl (by decide) ?_
  refine nn_new (l0 := []) (C := RX7) (T := TX7) (N := 3) (ci := 7) (fs := [.int 0, .null, .null]) hx hb hown hts hX (nC_nil hC) in_X7 tyX7 tyX7_ok q331 q332 q118 rfl (fun j hj => match j, hj with | 0, _ => rfl | 1, _ => rfl | 2, _ => rfl) (Nat.le_of_ble_eq_true rfl) (Nat.le_of_ble_eq_true rfl) dX0_made_40 (fun q H hC => ?_)
  have hC : nC (xC ca D adK adV) base (w ++ [(q, .inr (7, [.int 0, .null, .null]))]) s.heap H _ := hC
  refine lv_dup hx hb dX0_made_43 rfl ?_
  refine lv_aload_n hx hb dX0_made_44 rfl (lv_at hl 0 rfl) ?_
  refine lv_iload_n hx hb dX0_made_45 rfl (lv_at hl 2 rfl) ?_
  refine nn_callI (As := [.ref x, .int n]) (rest := [.ref q]) hx hb hml hown hts hX hC (i_X7_init (T := TX7) (C := RX7) (ci := 7) rfl in_X7 tyX7 tyX7_ok ⟨rfl, fun j h1 h2 => by rcases (show j = 1 ∨ j = 2 by omega) with rfl | rfl <;> rfl⟩ rfl rfl (by decide) rfl (by decide) (⟨rfl, fun j h1 h2 => Or.inr ⟨h2, by rcases (show j = 1 ∨ j = 2 by omega) with rfl | rfl <;> rfl⟩⟩ : PT (.ref x) 3 3 (.int 0) [.int 0, .null, .null])) q333 q334 q118 q335 rfl hdI_X7_init ⟨rfl, rfl⟩ ⟨Nat.le_of_ble_eq_true rfl, Nat.le_of_ble_eq_true rfl⟩ hl.1 rfl (Nat.le_of_ble_eq_true rfl) ⟨Nat.le_of_ble_eq_true rfl, Nat.le_of_ble_eq_true rfl⟩ dX0_made_46 (fun _ H locs hC => ?_)
  refine W.eq (g2 := F0 m 49 ls [.ref q]) rfl ?_
  refine W.widen (k := 1) (n := 5) (by decide) (by decide) ?_
  exact nn_aret hx hb hr ⟨_, rfl⟩ ⟨_, rfl⟩ hlocks hX hC q rfl rfl dX0_made_49
set_option maxRecDepth 100000 in
theorem i_made_2 {l : Launch} {D : va_G} {ca : Nat → ClassId} {adK adV : Nat → Nat} {base : Nat} {w : va_W} {x : Nat} {n : Int32} : Cn l yX0_made (ws_ yX0_made cX0_made 3 (some (.object "OwlEars$Strike"))) ({ frames := 5, cells := 1, slots := 5, locals := 103 }) (xC ca D adK adV) base [.ref x, .int 2, .int n] w (fun q : Nat => some (.ref q)) (fun q => w ++ [(q, SE 2 x n)]) 1 5 := by
  refine Cn.start (by decide) (Nat.le_of_ble_eq_true rfl) ?_
  intro p e s m below meth c hfx hin2 hX hC ls hl
  obtain ⟨hx, hb, hr, hml, hown, hts, hlocks⟩ := hfx
  have hl : lv_has ls 3 [(0, .ref x), (1, .int 2), (2, .int n)] := hl
  have hown : s.vm.findClass "OwlEars" = some m.cls := hown
  refine lv_iload_n hx hb dX0_made_0 rfl (lv_at hl 1 rfl) ?_
  refine lv_tableIn (off := 49) (tgt := 50) hx hb dX0_made_1 (by decide) (by decide) rfl (by decide) ?_
  refine nn_new (l0 := []) (C := RX8) (T := TX8) (N := 3) (ci := 8) (fs := [.int 0, .null, .null]) hx hb hown hts hX (nC_nil hC) in_X8 tyX8 tyX8_ok q351 q352 q119 rfl (fun j hj => match j, hj with | 0, _ => rfl | 1, _ => rfl | 2, _ => rfl) (Nat.le_of_ble_eq_true rfl) (Nat.le_of_ble_eq_true rfl) dX0_made_50 (fun q H hC => ?_)
  have hC : nC (xC ca D adK adV) base (w ++ [(q, .inr (8, [.int 0, .null, .null]))]) s.heap H _ := hC
  refine lv_dup hx hb dX0_made_53 rfl ?_
  refine lv_aload_n hx hb dX0_made_54 rfl (lv_at hl 0 rfl) ?_
  refine lv_iload_n hx hb dX0_made_55 rfl (lv_at hl 2 rfl) ?_
  refine nn_callI (As := [.ref x, .int n]) (rest := [.ref q]) hx hb hml hown hts hX hC (i_X8_init (T := TX8) (C := RX8) (ci := 8) rfl in_X8 tyX8 tyX8_ok ⟨rfl, fun j h1 h2 => by rcases (show j = 1 ∨ j = 2 by omega) with rfl | rfl <;> rfl⟩ rfl rfl (by decide) rfl (by decide) (⟨rfl, fun j h1 h2 => Or.inr ⟨h2, by rcases (show j = 1 ∨ j = 2 by omega) with rfl | rfl <;> rfl⟩⟩ : PT (.ref x) 3 3 (.int 0) [.int 0, .null, .null])) q353 q354 q119 q355 rfl hdI_X8_init ⟨rfl, rfl⟩ ⟨Nat.le_of_ble_eq_true rfl, Nat.le_of_ble_eq_true rfl⟩ hl.1 rfl (Nat.le_of_ble_eq_true rfl) ⟨Nat.le_of_ble_eq_true rfl, Nat.le_of_ble_eq_true rfl⟩ dX0_made_56 (fun _ H locs hC => ?_)
  refine W.eq (g2 := F0 m 59 ls [.ref q]) rfl ?_
  refine W.widen (k := 1) (n := 5) (by decide) (by decide) ?_
  exact nn_aret hx hb hr ⟨_, rfl⟩ ⟨_, rfl⟩ hlocks hX hC q rfl rfl dX0_made_59
set_option maxRecDepth 100000 in
theorem i_made_3 {l : Launch} {D : va_G} {ca : Nat → ClassId} {adK adV : Nat → Nat} {base : Nat} {w : va_W} {x : Nat} {n : Int32} : Cn l yX0_made (ws_ yX0_made cX0_made 3 (some (.object "OwlEars$Strike"))) ({ frames := 5, cells := 1, slots := 5, locals := 103 }) (xC ca D adK adV) base [.ref x, .int 3, .int n] w (fun q : Nat => some (.ref q)) (fun q => w ++ [(q, SE 3 x n)]) 1 5 := by
  refine Cn.start (by decide) (Nat.le_of_ble_eq_true rfl) ?_
  intro p e s m below meth c hfx hin2 hX hC ls hl
  obtain ⟨hx, hb, hr, hml, hown, hts, hlocks⟩ := hfx
  have hl : lv_has ls 3 [(0, .ref x), (1, .int 3), (2, .int n)] := hl
  have hown : s.vm.findClass "OwlEars" = some m.cls := hown
  refine lv_iload_n hx hb dX0_made_0 rfl (lv_at hl 1 rfl) ?_
  refine lv_tableIn (off := 59) (tgt := 60) hx hb dX0_made_1 (by decide) (by decide) rfl (by decide) ?_
  refine nn_new (l0 := []) (C := RX9) (T := TX9) (N := 4) (ci := 9) (fs := [.int 0, .null, .null, .null]) hx hb hown hts hX (nC_nil hC) in_X9 tyX9 tyX9_ok q363 q364 q120 rfl (fun j hj => match j, hj with | 0, _ => rfl | 1, _ => rfl | 2, _ => rfl | 3, _ => rfl) (Nat.le_of_ble_eq_true rfl) (Nat.le_of_ble_eq_true rfl) dX0_made_60 (fun q H hC => ?_)
  have hC : nC (xC ca D adK adV) base (w ++ [(q, .inr (9, [.int 0, .null, .null, .null]))]) s.heap H _ := hC
  refine lv_dup hx hb dX0_made_63 rfl ?_
  refine lv_aload_n hx hb dX0_made_64 rfl (lv_at hl 0 rfl) ?_
  refine lv_iload_n hx hb dX0_made_65 rfl (lv_at hl 2 rfl) ?_
  refine nn_callI (As := [.ref x, .int n]) (rest := [.ref q]) hx hb hml hown hts hX hC (i_X9_init (T := TX9) (C := RX9) (ci := 9) rfl in_X9 tyX9 tyX9_ok ⟨rfl, fun j h1 h2 => by rcases (show j = 1 ∨ j = 2 ∨ j = 3 by omega) with rfl | rfl | rfl <;> rfl⟩ rfl rfl (by decide) rfl (by decide) rfl (by decide) (⟨rfl, fun j h1 h2 => Or.inr ⟨h2, by rcases (show j = 1 ∨ j = 2 ∨ j = 3 by omega) with rfl | rfl | rfl <;> rfl⟩⟩ : PT (.ref x) 4 4 (.int 0) [.int 0, .null, .null, .null])) q365 q366 q120 q367 rfl hdI_X9_init ⟨rfl, rfl⟩ ⟨Nat.le_of_ble_eq_true rfl, Nat.le_of_ble_eq_true rfl⟩ hl.1 rfl (Nat.le_of_ble_eq_true rfl) ⟨Nat.le_of_ble_eq_true rfl, Nat.le_of_ble_eq_true rfl⟩ dX0_made_66 (fun _ H locs hC => ?_)
  refine W.eq (g2 := F0 m 69 ls [.ref q]) rfl ?_
  refine W.widen (k := 1) (n := 5) (by decide) (by decide) ?_
  exact nn_aret hx hb hr ⟨_, rfl⟩ ⟨_, rfl⟩ hlocks hX hC q rfl rfl dX0_made_69
set_option maxRecDepth 100000 in
theorem i_made_4 {l : Launch} {D : va_G} {ca : Nat → ClassId} {adK adV : Nat → Nat} {base : Nat} {w : va_W} {x : Nat} {n : Int32} : Cn l yX0_made (ws_ yX0_made cX0_made 3 (some (.object "OwlEars$Strike"))) ({ frames := 5, cells := 1, slots := 5, locals := 103 }) (xC ca D adK adV) base [.ref x, .int 4, .int n] w (fun q : Nat => some (.ref q)) (fun q => w ++ [(q, SE 4 x n)]) 1 5 := by
  refine Cn.start (by decide) (Nat.le_of_ble_eq_true rfl) ?_
  intro p e s m below meth c hfx hin2 hX hC ls hl
  obtain ⟨hx, hb, hr, hml, hown, hts, hlocks⟩ := hfx
  have hl : lv_has ls 3 [(0, .ref x), (1, .int 4), (2, .int n)] := hl
  have hown : s.vm.findClass "OwlEars" = some m.cls := hown
  refine lv_iload_n hx hb dX0_made_0 rfl (lv_at hl 1 rfl) ?_
  refine lv_tableIn (off := 69) (tgt := 70) hx hb dX0_made_1 (by decide) (by decide) rfl (by decide) ?_
  refine nn_new (l0 := []) (C := RX10) (T := TX10) (N := 5) (ci := 10) (fs := [.int 0, .null, .null, .null, .null]) hx hb hown hts hX (nC_nil hC) in_X10 tyX10 tyX10_ok q376 q377 q121 rfl (fun j hj => match j, hj with | 0, _ => rfl | 1, _ => rfl | 2, _ => rfl | 3, _ => rfl | 4, _ => rfl) (Nat.le_of_ble_eq_true rfl) (Nat.le_of_ble_eq_true rfl) dX0_made_70 (fun q H hC => ?_)
  have hC : nC (xC ca D adK adV) base (w ++ [(q, .inr (10, [.int 0, .null, .null, .null, .null]))]) s.heap H _ := hC
  refine lv_dup hx hb dX0_made_73 rfl ?_
  refine lv_aload_n hx hb dX0_made_74 rfl (lv_at hl 0 rfl) ?_
  refine lv_iload_n hx hb dX0_made_75 rfl (lv_at hl 2 rfl) ?_
  refine nn_callI (As := [.ref x, .int n]) (rest := [.ref q]) hx hb hml hown hts hX hC (i_X10_init (T := TX10) (C := RX10) (ci := 10) rfl in_X10 tyX10 tyX10_ok ⟨rfl, fun j h1 h2 => by rcases (show j = 1 ∨ j = 2 ∨ j = 3 ∨ j = 4 by omega) with rfl | rfl | rfl | rfl <;> rfl⟩ rfl rfl (by decide) rfl (by decide) rfl (by decide) rfl (by decide) (⟨rfl, fun j h1 h2 => Or.inr ⟨h2, by rcases (show j = 1 ∨ j = 2 ∨ j = 3 ∨ j = 4 by omega) with rfl | rfl | rfl | rfl <;> rfl⟩⟩ : PT (.ref x) 5 5 (.int 0) [.int 0, .null, .null, .null, .null])) q378 q379 q121 q380 rfl hdI_X10_init ⟨rfl, rfl⟩ ⟨Nat.le_of_ble_eq_true rfl, Nat.le_of_ble_eq_true rfl⟩ hl.1 rfl (Nat.le_of_ble_eq_true rfl) ⟨Nat.le_of_ble_eq_true rfl, Nat.le_of_ble_eq_true rfl⟩ dX0_made_76 (fun _ H locs hC => ?_)
  refine W.eq (g2 := F0 m 79 ls [.ref q]) rfl ?_
  refine W.widen (k := 1) (n := 5) (by decide) (by decide) ?_
  exact nn_aret hx hb hr ⟨_, rfl⟩ ⟨_, rfl⟩ hlocks hX hC q rfl rfl dX0_made_79
set_option maxRecDepth 100000 in
theorem i_made_5 {l : Launch} {D : va_G} {ca : Nat → ClassId} {adK adV : Nat → Nat} {base : Nat} {w : va_W} {x : Nat} {n : Int32} : Cn l yX0_made (ws_ yX0_made cX0_made 3 (some (.object "OwlEars$Strike"))) ({ frames := 5, cells := 1, slots := 5, locals := 103 }) (xC ca D adK adV) base [.ref x, .int 5, .int n] w (fun q : Nat => some (.ref q)) (fun q => w ++ [(q, SE 5 x n)]) 1 5 := by
  refine Cn.start (by decide) (Nat.le_of_ble_eq_true rfl) ?_
  intro p e s m below meth c hfx hin2 hX hC ls hl
  obtain ⟨hx, hb, hr, hml, hown, hts, hlocks⟩ := hfx
  have hl : lv_has ls 3 [(0, .ref x), (1, .int 5), (2, .int n)] := hl
  have hown : s.vm.findClass "OwlEars" = some m.cls := hown
  refine lv_iload_n hx hb dX0_made_0 rfl (lv_at hl 1 rfl) ?_
  refine lv_tableIn (off := 79) (tgt := 80) hx hb dX0_made_1 (by decide) (by decide) rfl (by decide) ?_
  refine nn_new (l0 := []) (C := RX11) (T := TX11) (N := 3) (ci := 11) (fs := [.int 0, .null, .null]) hx hb hown hts hX (nC_nil hC) in_X11 tyX11 tyX11_ok q390 q391 q122 rfl (fun j hj => match j, hj with | 0, _ => rfl | 1, _ => rfl | 2, _ => rfl) (Nat.le_of_ble_eq_true rfl) (Nat.le_of_ble_eq_true rfl) dX0_made_80 (fun q H hC => ?_)
  have hC : nC (xC ca D adK adV) base (w ++ [(q, .inr (11, [.int 0, .null, .null]))]) s.heap H _ := hC
  refine lv_dup hx hb dX0_made_83 rfl ?_
  refine lv_aload_n hx hb dX0_made_84 rfl (lv_at hl 0 rfl) ?_
  refine lv_iload_n hx hb dX0_made_85 rfl (lv_at hl 2 rfl) ?_
  refine nn_callI (As := [.ref x, .int n]) (rest := [.ref q]) hx hb hml hown hts hX hC (i_X11_init (T := TX11) (C := RX11) (ci := 11) rfl in_X11 tyX11 tyX11_ok ⟨rfl, fun j h1 h2 => by rcases (show j = 1 ∨ j = 2 by omega) with rfl | rfl <;> rfl⟩ rfl rfl (by decide) rfl (by decide) (⟨rfl, fun j h1 h2 => Or.inr ⟨h2, by rcases (show j = 1 ∨ j = 2 by omega) with rfl | rfl <;> rfl⟩⟩ : PT (.ref x) 3 3 (.int 0) [.int 0, .null, .null])) q392 q393 q122 q394 rfl hdI_X11_init ⟨rfl, rfl⟩ ⟨Nat.le_of_ble_eq_true rfl, Nat.le_of_ble_eq_true rfl⟩ hl.1 rfl (Nat.le_of_ble_eq_true rfl) ⟨Nat.le_of_ble_eq_true rfl, Nat.le_of_ble_eq_true rfl⟩ dX0_made_86 (fun _ H locs hC => ?_)
  refine W.eq (g2 := F0 m 89 ls [.ref q]) rfl ?_
  refine W.widen (k := 1) (n := 5) (by decide) (by decide) ?_
  exact nn_aret hx hb hr ⟨_, rfl⟩ ⟨_, rfl⟩ hlocks hX hC q rfl rfl dX0_made_89
set_option maxRecDepth 100000 in
theorem i_made_6 {l : Launch} {D : va_G} {ca : Nat → ClassId} {adK adV : Nat → Nat} {base : Nat} {w : va_W} {x : Nat} {n : Int32} : Cn l yX0_made (ws_ yX0_made cX0_made 3 (some (.object "OwlEars$Strike"))) ({ frames := 5, cells := 1, slots := 5, locals := 103 }) (xC ca D adK adV) base [.ref x, .int 6, .int n] w (fun q : Nat => some (.ref q)) (fun q => w ++ [(q, SE 6 x n)]) 1 5 := by
  refine Cn.start (by decide) (Nat.le_of_ble_eq_true rfl) ?_
  intro p e s m below meth c hfx hin2 hX hC ls hl
  obtain ⟨hx, hb, hr, hml, hown, hts, hlocks⟩ := hfx
  have hl : lv_has ls 3 [(0, .ref x), (1, .int 6), (2, .int n)] := hl
  have hown : s.vm.findClass "OwlEars" = some m.cls := hown
  refine lv_iload_n hx hb dX0_made_0 rfl (lv_at hl 1 rfl) ?_
  refine lv_tableIn (off := 89) (tgt := 90) hx hb dX0_made_1 (by decide) (by decide) rfl (by decide) ?_
  refine nn_new (l0 := []) (C := RX12) (T := TX12) (N := 4) (ci := 12) (fs := [.int 0, .null, .null, .null]) hx hb hown hts hX (nC_nil hC) in_X12 tyX12 tyX12_ok q402 q403 q123 rfl (fun j hj => match j, hj with | 0, _ => rfl | 1, _ => rfl | 2, _ => rfl | 3, _ => rfl) (Nat.le_of_ble_eq_true rfl) (Nat.le_of_ble_eq_true rfl) dX0_made_90 (fun q H hC => ?_)
  have hC : nC (xC ca D adK adV) base (w ++ [(q, .inr (12, [.int 0, .null, .null, .null]))]) s.heap H _ := hC
  refine lv_dup hx hb dX0_made_93 rfl ?_
  refine lv_aload_n hx hb dX0_made_94 rfl (lv_at hl 0 rfl) ?_
  refine lv_iload_n hx hb dX0_made_95 rfl (lv_at hl 2 rfl) ?_
  refine nn_callI (As := [.ref x, .int n]) (rest := [.ref q]) hx hb hml hown hts hX hC (i_X12_init (T := TX12) (C := RX12) (ci := 12) rfl in_X12 tyX12 tyX12_ok ⟨rfl, fun j h1 h2 => by rcases (show j = 1 ∨ j = 2 ∨ j = 3 by omega) with rfl | rfl | rfl <;> rfl⟩ rfl rfl (by decide) rfl (by decide) rfl (by decide) (⟨rfl, fun j h1 h2 => Or.inr ⟨h2, by rcases (show j = 1 ∨ j = 2 ∨ j = 3 by omega) with rfl | rfl | rfl <;> rfl⟩⟩ : PT (.ref x) 4 4 (.int 0) [.int 0, .null, .null, .null])) q404 q405 q123 q406 rfl hdI_X12_init ⟨rfl, rfl⟩ ⟨Nat.le_of_ble_eq_true rfl, Nat.le_of_ble_eq_true rfl⟩ hl.1 rfl (Nat.le_of_ble_eq_true rfl) ⟨Nat.le_of_ble_eq_true rfl, Nat.le_of_ble_eq_true rfl⟩ dX0_made_96 (fun _ H locs hC => ?_)
  refine W.eq (g2 := F0 m 99 ls [.ref q]) rfl ?_
  refine W.widen (k := 1) (n := 5) (by decide) (by decide) ?_
  exact nn_aret hx hb hr ⟨_, rfl⟩ ⟨_, rfl⟩ hlocks hX hC q rfl rfl dX0_made_99
theorem i_made {l : Launch} {D : va_G} {ca : Nat → ClassId} {adK adV : Nat → Nat} {base : Nat} {w : va_W} {x : Nat} {n : Int32} (j : Nat) (hj : j < 7) : Cn l yX0_made (ws_ yX0_made cX0_made 3 (some (.object "OwlEars$Strike"))) ({ frames := 5, cells := 1, slots := 5, locals := 103 }) (xC ca D adK adV) base [.ref x, .int (nI j), .int n] w (fun q : Nat => some (.ref q)) (fun q => w ++ [(q, SE j x n)]) 1 5 :=
  match j, hj with
  | 0, _ => i_made_0
  | 1, _ => i_made_1
  | 2, _ => i_made_2
  | 3, _ => i_made_3
  | 4, _ => i_made_4
  | 5, _ => i_made_5
  | 6, _ => i_made_6
