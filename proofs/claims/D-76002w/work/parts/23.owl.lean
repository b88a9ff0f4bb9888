theorem hdS_X0_in : yX0_in.cls ≠ "java/lang/invoke/MethodHandle" ∧ yX0_in.cls ≠ "java/lang/invoke/VarHandle" ∧ (parseMethodDescriptor yX0_in.desc).map (fun d => d.parameters.length) = some 3 := by decide +kernel
theorem hdV_X0_finding : yX0_finding.cls = RX0 ∧ yX0_finding.cls ≠ "java/lang/invoke/MethodHandle" ∧ yX0_finding.cls ≠ "java/lang/invoke/VarHandle" ∧ (parseMethodDescriptor yX0_finding.desc).map (fun d => d.parameters.length) = some 1 := by decide +kernel
theorem hdV_X4_passes : yX4_passes.cls = RX4 ∧ yX4_passes.cls ≠ "java/lang/invoke/MethodHandle" ∧ yX4_passes.cls ≠ "java/lang/invoke/VarHandle" ∧ (parseMethodDescriptor yX4_passes.desc).map (fun d => d.parameters.length) = some 0 := by decide +kernel
theorem hdV_X4_become : yX4_become.cls = RX4 ∧ yX4_become.cls ≠ "java/lang/invoke/MethodHandle" ∧ yX4_become.cls ≠ "java/lang/invoke/VarHandle" ∧ (parseMethodDescriptor yX4_become.desc).map (fun d => d.parameters.length) = some 1 := by decide +kernel
theorem hdV_X0_takesOf : yX0_takesOf.cls = RX0 ∧ yX0_takesOf.cls ≠ "java/lang/invoke/MethodHandle" ∧ yX0_takesOf.cls ≠ "java/lang/invoke/VarHandle" ∧ (parseMethodDescriptor yX0_takesOf.desc).map (fun d => d.parameters.length) = some 1 := by decide +kernel
theorem hdV_X0_passes : yX0_passes.cls = RX0 ∧ yX0_passes.cls ≠ "java/lang/invoke/MethodHandle" ∧ yX0_passes.cls ≠ "java/lang/invoke/VarHandle" ∧ (parseMethodDescriptor yX0_passes.desc).map (fun d => d.parameters.length) = some 1 := by decide +kernel
theorem hdV_X0_hits : yX0_hits.cls = RX0 ∧ yX0_hits.cls ≠ "java/lang/invoke/MethodHandle" ∧ yX0_hits.cls ≠ "java/lang/invoke/VarHandle" ∧ (parseMethodDescriptor yX0_hits.desc).map (fun d => d.parameters.length) = some 1 := by decide +kernel
theorem hdV_X0_hasIt : yX0_hasIt.cls = RX0 ∧ yX0_hasIt.cls ≠ "java/lang/invoke/MethodHandle" ∧ yX0_hasIt.cls ≠ "java/lang/invoke/VarHandle" ∧ (parseMethodDescriptor yX0_hasIt.desc).map (fun d => d.parameters.length) = some 1 := by decide +kernel
set_option maxRecDepth 100000 in
theorem m_X0_isSheet {l : Launch} {F : Fam} {ct : Ct} (s0 : Int32) : Cm l yX0_isSheet (ws_ yX0_isSheet cX0_isSheet 1 (some .boolean)) ({ frames := 1, cells := 0, slots := 0, locals := 22 }) F [.int s0] (ct) (fun _ : Unit => some (.int (b2i (p_in s0 0 3)))) (fun _ => ct) := by
  refine Cm.start (by decide) (Nat.le_of_ble_eq_true rfl) ?_
  intro p e s m below meth c hf hX hC ls hl
  obtain ⟨hx, hb, hr, hml, hown, hts, hlocks⟩ := hf
  have hl : lv_has ls 1 [(0, .int s0)] := hl
  have hown : s.vm.findClass "OwlEars" = some m.cls := hown
  refine lv_iload_n hx hb dX0_isSheet_0 rfl (lv_at hl 0 rfl) ?_
  refine lv_iconst (v := 0) hx hb dX0_isSheet_1 rfl ?_
  refine lv_iconst (v := 3) hx hb dX0_isSheet_2 rfl ?_
  refine fc_S (As := [.int s0, .int 0, .int 3]) (rest := []) hx hb hml hown hts hX hC (m_X0_in s0 0 3) (lw_S q469 q470 q108 q471) hdS_X0_in ⟨rfl, rfl⟩ ⟨Nat.le_of_ble_eq_true rfl, Nat.le_of_ble_eq_true rfl⟩ hl.1 rfl (Nat.le_of_ble_eq_true rfl) ⟨Nat.zero_le _, Nat.zero_le _⟩ dX0_isSheet_3 (fun _ H locs hC => ?_)
  refine W.eq (g2 := F0 m 6 ls [.int (b2i (p_in s0 0 3))]) rfl ?_
  exact fr_z hx hb hr nar_b2i hlocks hX hC () rfl rfl dX0_isSheet_6
set_option maxRecDepth 100000 in
theorem m_X0_isSpot {l : Launch} {F : Fam} {ct : Ct} (s0 : Int32) : Cm l yX0_isSpot (ws_ yX0_isSpot cX0_isSpot 1 (some .boolean)) ({ frames := 1, cells := 0, slots := 0, locals := 22 }) F [.int s0] (ct) (fun _ : Unit => some (.int (b2i (p_in s0 0 9)))) (fun _ => ct) := by
  refine Cm.start (by decide) (Nat.le_of_ble_eq_true rfl) ?_
  intro p e s m below meth c hf hX hC ls hl
  obtain ⟨hx, hb, hr, hml, hown, hts, hlocks⟩ := hf
  have hl : lv_has ls 1 [(0, .int s0)] := hl
  have hown : s.vm.findClass "OwlEars" = some m.cls := hown
  refine lv_iload_n hx hb dX0_isSpot_0 rfl (lv_at hl 0 rfl) ?_
  refine lv_iconst (v := 0) hx hb dX0_isSpot_1 rfl ?_
  refine lv_bipush (v := 9) hx hb dX0_isSpot_2 rfl ?_
  refine fc_S (As := [.int s0, .int 0, .int 9]) (rest := []) hx hb hml hown hts hX hC (m_X0_in s0 0 9) (lw_S q469 q470 q108 q471) hdS_X0_in ⟨rfl, rfl⟩ ⟨Nat.le_of_ble_eq_true rfl, Nat.le_of_ble_eq_true rfl⟩ hl.1 rfl (Nat.le_of_ble_eq_true rfl) ⟨Nat.zero_le _, Nat.zero_le _⟩ dX0_isSpot_4 (fun _ H locs hC => ?_)
  refine W.eq (g2 := F0 m 7 ls [.int (b2i (p_in s0 0 9))]) rfl ?_
  exact fr_z hx hb hr nar_b2i hlocks hX hC () rfl rfl dX0_isSpot_7
set_option maxRecDepth 100000 in
theorem m_X0_isKind {l : Launch} {F : Fam} {ct : Ct} (k : Int32) : Cm l yX0_isKind (ws_ yX0_isKind cX0_isKind 1 (some .boolean)) ({ frames := 1, cells := 0, slots := 0, locals := 22 }) F [.int k] (ct) (fun _ : Unit => some (.int (b2i (p_in k 0 6)))) (fun _ => ct) := by
  refine Cm.start (by decide) (Nat.le_of_ble_eq_true rfl) ?_
  intro p e s m below meth c hf hX hC ls hl
  obtain ⟨hx, hb, hr, hml, hown, hts, hlocks⟩ := hf
  have hl : lv_has ls 1 [(0, .int k)] := hl
  have hown : s.vm.findClass "OwlEars" = some m.cls := hown
  refine lv_iload_n hx hb dX0_isKind_0 rfl (lv_at hl 0 rfl) ?_
  refine lv_iconst (v := 0) hx hb dX0_isKind_1 rfl ?_
  refine lv_bipush (v := 6) hx hb dX0_isKind_2 rfl ?_
  refine fc_S (As := [.int k, .int 0, .int 6]) (rest := []) hx hb hml hown hts hX hC (m_X0_in k 0 6) (lw_S q469 q470 q108 q471) hdS_X0_in ⟨rfl, rfl⟩ ⟨Nat.le_of_ble_eq_true rfl, Nat.le_of_ble_eq_true rfl⟩ hl.1 rfl (Nat.le_of_ble_eq_true rfl) ⟨Nat.zero_le _, Nat.zero_le _⟩ dX0_isKind_4 (fun _ H locs hC => ?_)
  refine W.eq (g2 := F0 m 7 ls [.int (b2i (p_in k 0 6))]) rfl ?_
  exact fr_z hx hb hr nar_b2i hlocks hX hC () rfl rfl dX0_isKind_7
set_option maxRecDepth 100000 in
theorem m_X0_isCell {l : Launch} {F : Fam} {ct : Ct} (c0 : Int32) : Cm l yX0_isCell (ws_ yX0_isCell cX0_isCell 1 (some .boolean)) ({ frames := 1, cells := 0, slots := 0, locals := 22 }) F [.int c0] (ct) (fun _ : Unit => some (.int (b2i (p_in c0 0 35)))) (fun _ => ct) := by
  refine Cm.start (by decide) (Nat.le_of_ble_eq_true rfl) ?_
  intro p e s m below meth c hf hX hC ls hl
  obtain ⟨hx, hb, hr, hml, hown, hts, hlocks⟩ := hf
  have hl : lv_has ls 1 [(0, .int c0)] := hl
  have hown : s.vm.findClass "OwlEars" = some m.cls := hown
  refine lv_iload_n hx hb dX0_isCell_0 rfl (lv_at hl 0 rfl) ?_
  refine lv_iconst (v := 0) hx hb dX0_isCell_1 rfl ?_
  refine lv_bipush (v := 35) hx hb dX0_isCell_2 rfl ?_
  refine fc_S (As := [.int c0, .int 0, .int 35]) (rest := []) hx hb hml hown hts hX hC (m_X0_in c0 0 35) (lw_S q469 q470 q108 q471) hdS_X0_in ⟨rfl, rfl⟩ ⟨Nat.le_of_ble_eq_true rfl, Nat.le_of_ble_eq_true rfl⟩ hl.1 rfl (Nat.le_of_ble_eq_true rfl) ⟨Nat.zero_le _, Nat.zero_le _⟩ dX0_isCell_4 (fun _ H locs hC => ?_)
  refine W.eq (g2 := F0 m 7 ls [.int (b2i (p_in c0 0 35))]) rfl ?_
  exact fr_z hx hb hr nar_b2i hlocks hX hC () rfl rfl dX0_isCell_7
set_option maxRecDepth 100000 in
theorem m_X0_isHeading {l : Launch} {F : Fam} {ct : Ct} (h : Int32) : Cm l yX0_isHeading (ws_ yX0_isHeading cX0_isHeading 1 (some .boolean)) ({ frames := 1, cells := 0, slots := 0, locals := 22 }) F [.int h] (ct) (fun _ : Unit => some (.int (b2i (p_in h 0 3)))) (fun _ => ct) := by
  refine Cm.start (by decide) (Nat.le_of_ble_eq_true rfl) ?_
  intro p e s m below meth c hf hX hC ls hl
  obtain ⟨hx, hb, hr, hml, hown, hts, hlocks⟩ := hf
  have hl : lv_has ls 1 [(0, .int h)] := hl
  have hown : s.vm.findClass "OwlEars" = some m.cls := hown
  refine lv_iload_n hx hb dX0_isHeading_0 rfl (lv_at hl 0 rfl) ?_
  refine lv_iconst (v := 0) hx hb dX0_isHeading_1 rfl ?_
  refine lv_iconst (v := 3) hx hb dX0_isHeading_2 rfl ?_
  refine fc_S (As := [.int h, .int 0, .int 3]) (rest := []) hx hb hml hown hts hX hC (m_X0_in h 0 3) (lw_S q469 q470 q108 q471) hdS_X0_in ⟨rfl, rfl⟩ ⟨Nat.le_of_ble_eq_true rfl, Nat.le_of_ble_eq_true rfl⟩ hl.1 rfl (Nat.le_of_ble_eq_true rfl) ⟨Nat.zero_le _, Nat.zero_le _⟩ dX0_isHeading_3 (fun _ H locs hC => ?_)
  refine W.eq (g2 := F0 m 6 ls [.int (b2i (p_in h 0 3))]) rfl ?_
  exact fr_z hx hb hr nar_b2i hlocks hX hC () rfl rfl dX0_isHeading_6
set_option maxRecDepth 100000 in
theorem m_X0_finding {l : Launch} {G : Gc} {d kp as un to sc fd tp sh : Row} {sp : Nat → Option Nat} (k : Int32) (hk : vp_in k 7) : Cm l yX0_finding (ws_ yX0_finding cX0_finding 2 (some .int)) ({ frames := 0, cells := 0, slots := 0, locals := 0 }) (cF G) [.ref (G.ad 5 0), .int k] (cct G (pg d kp as un to sc fd tp sh) sp) (fun _ : Unit => some (.int (-1000001 - k))) (fun _ => cct G (pg d kp as un to sc (p_find fd k) tp sh) sp) := by
  refine Cm.start (by decide) (Nat.le_of_ble_eq_true rfl) ?_
  intro p e s m below meth c hf hX hC ls hl
  obtain ⟨hx, hb, hr, hml, hown, hts, hlocks⟩ := hf
  have hl : lv_has ls 2 [(0, .ref (G.ad 5 0)), (1, .int k)] := hl
  have hown : s.vm.findClass "OwlEars" = some m.cls := hown
  refine lv_aload_n hx hb dX0_finding_0 rfl (lv_at hl 0 rfl) ?_
  refine fg_get (C := RX0) (T := TX0) (N := 13) (ci := 1) (g := 5) (i := 0) (v := .ref (G.ad 5 8)) hx hb hown hts hX hC in_X0 rfl (cin rfl) rfl 11 (by decide) q433 (fun _ h => h) rfl dX0_finding_1 ?_
  refine lv_iload_n hx hb dX0_finding_4 rfl (lv_at hl 1 rfl) ?_
  refine lv_dup2_11 hx hb dX0_finding_5 rfl rfl ?_
  refine fg_iald (g := 5) (i := 8) (t0 := 0) (v := fd (ix k)) hx hb hX hC (cin rfl) rfl rfl hk rfl dX0_finding_6 ?_
  refine lv_iconst (v := 1) hx hb dX0_finding_7 rfl ?_
  refine lv_iadd hx hb dX0_finding_8 ?_
  refine fg_iast (g := 5) (i := 8) (t0 := 0) hx hb hX hC (cin rfl) rfl rfl hk (cct G (pg d kp as un to sc (upd fd (ix k) ((fd (ix k)) + 1)) tp sh) sp) cs_find dX0_finding_9 (fun H locs hC => ?_)
  refine lv_ldc (v := (-1000001)) hx hb hown (hts _ q476) dX0_finding_10 ?_
  refine lv_iload_n hx hb dX0_finding_12 rfl (lv_at hl 1 rfl) ?_
  refine lv_isub hx hb dX0_finding_13 ?_
  exact fr_i hx hb hr hlocks hX hC () (congrArg (fun z => some (Value.int z)) (rfl)) (congrArg (fun z => cct G (pg d kp as un to sc z tp sh) sp) (rfl)) dX0_finding_14
set_option maxRecDepth 100000 in
theorem m_X0_isStrike {l : Launch} {G : Gc} {d kp as un to sc fd tp sh : Row} {sp : Nat → Option Nat} (k : Int32) : Cm l yX0_isStrike (ws_ yX0_isStrike cX0_isStrike 2 (some .boolean)) ({ frames := 1, cells := 0, slots := 0, locals := 22 }) (cF G) [.ref (G.ad 5 0), .int k] (cct G (pg d kp as un to sc fd tp sh) sp) (fun _ : Unit => some (.int (b2i (p_in k 0 (d 1 - 1))))) (fun _ => cct G (pg d kp as un to sc fd tp sh) sp) := by
  refine Cm.start (by decide) (Nat.le_of_ble_eq_true rfl) ?_
  intro p e s m below meth c hf hX hC ls hl
  obtain ⟨hx, hb, hr, hml, hown, hts, hlocks⟩ := hf
  have hl : lv_has ls 2 [(0, .ref (G.ad 5 0)), (1, .int k)] := hl
  have hown : s.vm.findClass "OwlEars" = some m.cls := hown
  refine lv_iload_n hx hb dX0_isStrike_0 rfl (lv_at hl 1 rfl) ?_
  refine lv_iconst (v := 0) hx hb dX0_isStrike_1 rfl ?_
  refine lv_aload_n hx hb dX0_isStrike_2 rfl (lv_at hl 0 rfl) ?_
  refine fg_get (C := RX0) (T := TX0) (N := 13) (ci := 1) (g := 5) (i := 0) (v := .ref (G.ad 0 0)) hx hb hown hts hX hC in_X0 rfl (cin rfl) rfl 3 (by decide) q425 (fun _ h => h) rfl dX0_isStrike_3 ?_
  refine fg_getN (C := RX4) (T := TX4) (N := 9) (ci := 0) (g := 0) (i := 0) (v := .int (d 1)) hx hb hown hts hX hC in_X4 rfl (cin rfl) rfl 4 (by decide) (hX.2.2.1.F q253) (fun _ h => h) rfl dX0_isStrike_6 ?_
  refine lv_iconst (v := 1) hx hb dX0_isStrike_9 rfl ?_
  refine lv_isub hx hb dX0_isStrike_10 ?_
  refine fc_S (As := [.int k, .int 0, .int ((d 1) - 1)]) (rest := []) hx hb hml hown hts hX hC (m_X0_in k 0 ((d 1) - 1)) (lw_S q469 q470 q108 q471) hdS_X0_in ⟨rfl, rfl⟩ ⟨Nat.le_of_ble_eq_true rfl, Nat.le_of_ble_eq_true rfl⟩ hl.1 rfl (Nat.le_of_ble_eq_true rfl) ⟨Nat.zero_le _, Nat.zero_le _⟩ dX0_isStrike_11 (fun _ H locs hC => ?_)
  refine W.eq (g2 := F0 m 14 ls [.int (b2i (p_in k 0 ((d 1) - 1)))]) rfl ?_
  exact fr_z hx hb hr nar_b2i hlocks hX hC () (congrArg (fun z => some (Value.int z)) (b2i_c (by first | rfl | (simp [])))) rfl dX0_isStrike_14
set_option maxRecDepth 100000 in
theorem m_X0_orNone {l : Launch} {G : Gc} {d kp as un to sc fd tp sh : Row} {sp : Nat → Option Nat} (v : Int32) : Cm l yX0_orNone (ws_ yX0_orNone cX0_orNone 2 (some .int)) ({ frames := 1, cells := 0, slots := 0, locals := 21 }) (cF G) [.ref (G.ad 5 0), .int v] (cct G (pg d kp as un to sc fd tp sh) sp) (fun _ : Unit => some (.int (if v = -1 then -1000004 else v))) (fun _ => cct G (pg d kp as un to sc (if v = -1 then p_find fd 3 else fd) tp sh) sp) := by
  refine Cm.start (by decide) (Nat.le_of_ble_eq_true rfl) ?_
  intro p e s m below meth c hf hX hC ls hl
  obtain ⟨hx, hb, hr, hml, hown, hts, hlocks⟩ := hf
  have hl : lv_has ls 2 [(0, .ref (G.ad 5 0)), (1, .int v)] := hl
  have hown : s.vm.findClass "OwlEars" = some m.cls := hown
  refine lv_iload_n hx hb dX0_orNone_0 rfl (lv_at hl 1 rfl) ?_
  refine lv_iconst (v := (-1)) hx hb dX0_orNone_1 rfl ?_
  refine lv_icmp_ne (tgt := 13) hx hb dX0_orNone_2 (by decide) (fun c_1 => ?_) (fun c_1 => ?_)
  · refine lv_iload_n hx hb dX0_orNone_13 rfl (lv_at hl 1 rfl) ?_
    exact fr_i hx hb hr hlocks hX hC () (congrArg (fun z => some (Value.int z)) (by first | rfl | (simp [c_1]))) (congrArg (fun z => cct G (pg d kp as un to sc z tp sh) sp) (by first | rfl | (simp [c_1]))) dX0_orNone_14
  · refine lv_aload_n hx hb dX0_orNone_5 rfl (lv_at hl 0 rfl) ?_
    refine lv_iconst (v := 3) hx hb dX0_orNone_6 rfl ?_
    refine fc_V (As := [.int 3]) (rest := []) hx hb hml hown hts hX hC (m_X0_finding 3 (vin_b rfl)) (lw_V q472 q474 qs2 q108 q475) hdV_X0_finding ⟨rfl, rfl⟩ ⟨Nat.le_of_ble_eq_true rfl, Nat.le_of_ble_eq_true rfl⟩ (fx_recv (g := 5) (i := 0) (ci := 1) (q := (RX0, TX0, 13)) hX hC (cin rfl) rfl rfl) hl.1 rfl (Nat.le_of_ble_eq_true rfl) ⟨Nat.zero_le _, Nat.zero_le _⟩ dX0_orNone_7 (fun _ H locs hC => ?_)
    refine W.eq (g2 := F0 m 10 ls [.int (-1000004)]) rfl ?_
    refine lv_goto (tgt := 14) hx hb dX0_orNone_10 (by decide) ?_
    exact fr_i hx hb hr hlocks hX hC () (congrArg (fun z => some (Value.int z)) (by first | rfl | (simp [c_1]))) (congrArg (fun z => cct G (pg d kp as un to sc z tp sh) sp) (by first | rfl | (simp [c_1]))) dX0_orNone_14
set_option maxRecDepth 100000 in
theorem m_X0_passes {l : Launch} {G : Gc} {d kp as un to sc fd tp sh : Row} {sp : Nat → Option Nat} (hw : WF d) (n : Int32) : Cm l yX0_passes (ws_ yX0_passes cX0_passes 3 none) ({ frames := 2, cells := 0, slots := 0, locals := 42 }) (cF G) [.ref (G.ad 5 0), .int n] (cct G (pg d kp as un to sc fd tp sh) sp) (fun _ : Unit => none) (fun _ => cct G (pg (p_ticks (ix n) d) kp as un to sc fd tp sh) sp) := by
  refine Cm.start (by decide) (Nat.le_of_ble_eq_true rfl) ?_
  intro p e s m below meth c hf hX hC ls hl
  obtain ⟨hx, hb, hr, hml, hown, hts, hlocks⟩ := hf
  have hl : lv_has ls 3 [(0, .ref (G.ad 5 0)), (1, .int n)] := hl
  have hown : s.vm.findClass "OwlEars" = some m.cls := hown
  refine lv_iconst (v := 0) hx hb dX0_passes_0 rfl ?_
  refine lv_istore_n (lv' := [(2, .int 0), (0, .ref (G.ad 5 0)), (1, .int n)]) hx hb dX0_passes_1 rfl hl (by decide) rfl (fun ls hl => ?_)
  have L_1 : ∀ (k1 i1 : Nat), i1 + k1 = ix n → ∀ (H : Heap) (locs : List Loc), fC (cF G) (cct G (pg (p_ticks i1 d) kp as un to sc fd tp sh) sp) s.heap H locs → ∀ ls : Array Slot, lv_has ls 3 [(2, .int (nI i1)), (0, .ref (G.ad 5 0)), (1, .int n)] → WG p l e ({ frames := 2, cells := 0, slots := 0, locals := 42 }) s m (([.ref (G.ad 5 0), .int n] : List Value).toArray) below meth c H locs (cF G) (fun _ : Unit => none) (fun _ => cct G (pg (p_ticks (ix n) d) kp as un to sc fd tp sh) sp) (F0 m 2 ls []) := by
    intro k1
    induction k1 with
    | zero =>
      intro i1 hi1 H locs hC ls hl
      obtain rfl : i1 = ix n := by omega
      refine lv_iload_n hx hb dX0_passes_2 rfl (lv_at hl 0 rfl) ?_
      refine lv_iload_n hx hb dX0_passes_3 rfl (lv_at hl 2 rfl) ?_
      refine fj_ge (tgt := 20) hx hb dX0_passes_4 (by decide) (fun _ => ?_) (fun z_2 => absurd z_2 (nlt_ix (n := n)))
      exact fr_v hx hb hr hlocks hX hC () rfl rfl dX0_passes_20
    | succ k1 ih1 =>
      intro i1 hi1 H locs hC ls hl
      have hz1 : i1 < 2147483648 := by have := ix_lt n; omega
      refine lv_iload_n hx hb dX0_passes_2 rfl (lv_at hl 0 rfl) ?_
      refine lv_iload_n hx hb dX0_passes_3 rfl (lv_at hl 2 rfl) ?_
      refine fj_ge (tgt := 20) hx hb dX0_passes_4 (by decide) (fun z_3 => absurd (lt_ix (n := n) (show i1 < ix n by omega)) z_3) (fun _ => ?_)
      refine lv_aload_n hx hb dX0_passes_7 rfl (lv_at hl 1 rfl) ?_
      refine fg_get (C := RX0) (T := TX0) (N := 13) (ci := 1) (g := 5) (i := 0) (v := .ref (G.ad 0 0)) hx hb hown hts hX hC in_X0 rfl (cin rfl) rfl 3 (by decide) q425 (fun _ h => h) rfl dX0_passes_8 ?_
      refine fc_V (As := []) (rest := []) hx hb hml hown hts hX hC (m_X4_passes (hw.ticks _)) (lw_V q714 q715 q716 q115 q717) hdV_X4_passes ⟨rfl, rfl⟩ ⟨Nat.le_of_ble_eq_true rfl, Nat.le_of_ble_eq_true rfl⟩ (fx_recv (g := 0) (i := 0) (ci := 0) (q := (RX4, TX4, 9)) hX hC (cin rfl) rfl rfl) hl.1 rfl (Nat.le_of_ble_eq_true rfl) ⟨Nat.zero_le _, Nat.zero_le _⟩ dX0_passes_11 (fun _ H locs hC => ?_)
      refine W.eq (g2 := F0 m 14 ls []) rfl ?_
      refine lv_iinc (v := nI (i1 + 1)) (lv' := [(2, .int (nI (i1 + 1))), (0, .ref (G.ad 5 0)), (1, .int n)]) hx hb dX0_passes_14 hl (k := 0) rfl (nI_1 _) (by decide) rfl (fun ls hl => ?_)
      refine lv_goto (tgt := 2) hx hb dX0_passes_17 (by decide) ?_
      exact ih1 (i1 + 1) (by omega) _ _ hC ls (lv_sub hl [0, 1, 2] rfl)
  exact L_1 (ix n) 0 (by omega) _ _ hC ls (lv_sub hl [0, 1, 2] rfl)


set_option maxRecDepth 100000 in
theorem m_X0_hasIt {l : Launch} {G : Gc} {d kp as un to sc fd tp sh : Row} {sp : Nat → Option Nat} (hw : WF d) (k : Int32) (hk : vp_in k 8) : Cm l yX0_hasIt (wsW_ yX0_hasIt cX0_hasIt 4 (some .boolean) [(11, 26, 39, 0)]) ({ frames := 9, cells := 0, slots := 0, locals := 323 }) (cF G) [.ref (G.ad 5 0), .int k] (cct G (pg d kp as un to sc fd tp sh) sp) (fun _ : Unit => some (.int (b2i (p_has d k)))) (fun _ => cct G (pg d kp d un to sc fd tp sh) sp) := by
  refine Cm.startW (by decide) (Nat.le_of_ble_eq_true rfl) ?_
  intro p e s m below meth c hf hX hC ls hl
  obtain ⟨hx, hb, hr, hml, hown, hts, hlocks⟩ := hf
  have hl : lv_has ls 4 [(0, .ref (G.ad 5 0)), (1, .int k)] := hl
  have hown : s.vm.findClass "OwlEars" = some m.cls := hown
  refine lv_aload_n hx hb dX0_hasIt_0 rfl (lv_at hl 0 rfl) ?_
  refine fg_get (C := RX0) (T := TX0) (N := 13) (ci := 1) (g := 5) (i := 0) (v := .ref (G.ad 2 0)) hx hb hown hts hX hC in_X0 rfl (cin rfl) rfl 5 (by decide) q427 (fun _ h => h) rfl dX0_hasIt_1 ?_
  refine lv_aload_n hx hb dX0_hasIt_4 rfl (lv_at hl 0 rfl) ?_
  refine fg_get (C := RX0) (T := TX0) (N := 13) (ci := 1) (g := 5) (i := 0) (v := .ref (G.ad 0 0)) hx hb hown hts hX hC in_X0 rfl (cin rfl) rfl 3 (by decide) q425 (fun _ h => h) rfl dX0_hasIt_5 ?_
  refine fc_V (As := [.ref (G.ad 0 0)]) (rest := []) hx hb hml hown hts hX hC (m_X4_become_20) (lw_V q700 q701 q702 q115 q703) hdV_X4_become ⟨rfl, rfl⟩ ⟨Nat.le_of_ble_eq_true rfl, Nat.le_of_ble_eq_true rfl⟩ (fx_recv (g := 2) (i := 0) (ci := 0) (q := (RX4, TX4, 9)) hX hC (cin rfl) rfl rfl) hl.1 rfl (Nat.le_of_ble_eq_true rfl) ⟨Nat.zero_le _, Nat.zero_le _⟩ dX0_hasIt_8 (fun _ H locs hC => ?_)
  refine W.eq (g2 := F0 m 11 ls []) rfl ?_
  refine lv_aload_n hx hb dX0_hasIt_11 rfl (lv_at hl 0 rfl) ?_
  refine lv_aload_n hx hb dX0_hasIt_12 rfl (lv_at hl 0 rfl) ?_
  refine lv_iload_n hx hb dX0_hasIt_13 rfl (lv_at hl 1 rfl) ?_
  refine fc_V (As := [.int k]) (rest := [.ref (G.ad 5 0)]) hx hb hml hown hts hX hC (m_X0_takesOf hw k hk) (lw_V q575 q577 qs6 q108 q578) hdV_X0_takesOf ⟨rfl, rfl⟩ ⟨Nat.le_of_ble_eq_true rfl, Nat.le_of_ble_eq_true rfl⟩ (fx_recv (g := 5) (i := 0) (ci := 1) (q := (RX0, TX0, 13)) hX hC (cin rfl) rfl rfl) hl.1 rfl (Nat.le_of_ble_eq_true rfl) ⟨Nat.zero_le _, Nat.zero_le _⟩ dX0_hasIt_14 (fun _ H locs hC => ?_)
  refine W.eq (g2 := F0 m 17 ls [.int (p_takes d k), .ref (G.ad 5 0)]) rfl ?_
  refine fc_V (As := [.int (p_takes d k)]) (rest := []) hx hb hml hown hts hX hC (m_X0_passes hw (p_takes d k)) (lw_V q710 q712 qs8 q108 q713) hdV_X0_passes ⟨rfl, rfl⟩ ⟨Nat.le_of_ble_eq_true rfl, Nat.le_of_ble_eq_true rfl⟩ (fx_recv (g := 5) (i := 0) (ci := 1) (q := (RX0, TX0, 13)) hX hC (cin rfl) rfl rfl) hl.1 rfl (Nat.le_of_ble_eq_true rfl) ⟨Nat.zero_le _, Nat.zero_le _⟩ dX0_hasIt_17 (fun _ H locs hC => ?_)
  refine W.eq (g2 := F0 m 20 ls []) rfl ?_
  refine lv_aload_n hx hb dX0_hasIt_20 rfl (lv_at hl 0 rfl) ?_
  refine lv_iload_n hx hb dX0_hasIt_21 rfl (lv_at hl 1 rfl) ?_
  refine fc_V (As := [.int k]) (rest := []) hx hb hml hown hts hX hC (m_X0_hits (hw.ticks _) k hk) (lw_V q721 q723 qs9 q108 q724) hdV_X0_hits ⟨rfl, rfl⟩ ⟨Nat.le_of_ble_eq_true rfl, Nat.le_of_ble_eq_true rfl⟩ (fx_recv (g := 5) (i := 0) (ci := 1) (q := (RX0, TX0, 13)) hX hC (cin rfl) rfl rfl) hl.1 rfl (Nat.le_of_ble_eq_true rfl) ⟨Nat.zero_le _, Nat.zero_le _⟩ dX0_hasIt_22 (fun _ H locs hC => ?_)
  refine W.eq (g2 := F0 m 25 ls [.int (b2i (p_hits (p_ticks (ix (p_takes d k)) d) k))]) rfl ?_
  refine lv_istore_n (lv' := [(2, .int (b2i (p_hits (p_ticks (ix (p_takes d k)) d) k))), (0, .ref (G.ad 5 0)), (1, .int k)]) hx hb dX0_hasIt_25 rfl hl (by decide) rfl (fun ls hl => ?_)
  refine lv_aload_n hx hb dX0_hasIt_26 rfl (lv_at hl 1 rfl) ?_
  refine fg_get (C := RX0) (T := TX0) (N := 13) (ci := 1) (g := 5) (i := 0) (v := .ref (G.ad 0 0)) hx hb hown hts hX hC in_X0 rfl (cin rfl) rfl 3 (by decide) q425 (fun _ h => h) rfl dX0_hasIt_27 ?_
  refine lv_aload_n hx hb dX0_hasIt_30 rfl (lv_at hl 1 rfl) ?_
  refine fg_get (C := RX0) (T := TX0) (N := 13) (ci := 1) (g := 5) (i := 0) (v := .ref (G.ad 2 0)) hx hb hown hts hX hC in_X0 rfl (cin rfl) rfl 5 (by decide) q427 (fun _ h => h) rfl dX0_hasIt_31 ?_
  refine fc_V (As := [.ref (G.ad 2 0)]) (rest := []) hx hb hml hown hts hX hC (m_X4_become_02) (lw_V q700 q701 q702 q115 q703) hdV_X4_become ⟨rfl, rfl⟩ ⟨Nat.le_of_ble_eq_true rfl, Nat.le_of_ble_eq_true rfl⟩ (fx_recv (g := 0) (i := 0) (ci := 0) (q := (RX4, TX4, 9)) hX hC (cin rfl) rfl rfl) hl.1 rfl (Nat.le_of_ble_eq_true rfl) ⟨Nat.zero_le _, Nat.zero_le _⟩ dX0_hasIt_34 (fun _ H locs hC => ?_)
  refine W.eq (g2 := F0 m 37 ls []) rfl ?_
  refine lv_iload_n hx hb dX0_hasIt_37 rfl (lv_at hl 0 rfl) ?_
  exact fr_z hx hb hr nar_b2i hlocks hX hC () (congrArg (fun z => some (Value.int z)) (b2i_c (Iff.rfl))) rfl dX0_hasIt_38
set_option maxRecDepth 100000 in
theorem m_X0_havingIt {l : Launch} {G : Gc} {d kp as un to sc fd tp sh : Row} {sp : Nat → Option Nat} (hw : WF d)  : Cm l yX0_havingIt (ws_ yX0_havingIt cX0_havingIt 3 (some .int)) ({ frames := 10, cells := 0, slots := 0, locals := 346 }) (cF G) [.ref (G.ad 5 0)] (cct G (pg d kp as un to sc fd tp sh) sp) (fun u : Row => some (.int (p_having d))) (fun u => cct G (pg d kp u un to sc fd tp sh) sp) := by
  refine Cm.start (by decide) (Nat.le_of_ble_eq_true rfl) ?_
  intro p e s m below meth c hf hX hC ls hl
  obtain ⟨hx, hb, hr, hml, hown, hts, hlocks⟩ := hf
  have hl : lv_has ls 3 [(0, .ref (G.ad 5 0))] := hl
  have hown : s.vm.findClass "OwlEars" = some m.cls := hown
  refine lv_iconst (v := 0) hx hb dX0_havingIt_0 rfl ?_
  refine lv_istore_n (lv' := [(1, .int 0), (0, .ref (G.ad 5 0))]) hx hb dX0_havingIt_1 rfl hl (by decide) rfl (fun ls hl => ?_)
  refine lv_iconst (v := 0) hx hb dX0_havingIt_2 rfl ?_
  refine lv_istore_n (lv' := [(2, .int 0), (1, .int 0), (0, .ref (G.ad 5 0))]) hx hb dX0_havingIt_3 rfl hl (by decide) rfl (fun ls hl => ?_)
  have L_1 : ∀ (k1 i1 : Nat), i1 + k1 = ix (d 1) → ∀ (as1 : Row) (H : Heap) (locs : List Loc), fC (cF G) (cct G (pg d kp as1 un to sc fd tp sh) sp) s.heap H locs → ∀ ls : Array Slot, lv_has ls 3 [(2, .int (nI i1)), (1, .int (p_orr (fun k => if p_has d (nI k) then 1 <<< (nI k &&& 31) else 0) i1)), (0, .ref (G.ad 5 0))] → WG p l e ({ frames := 10, cells := 0, slots := 0, locals := 346 }) s m (([.ref (G.ad 5 0)] : List Value).toArray) below meth c H locs (cF G) (fun u : Row => some (.int (p_having d))) (fun u => cct G (pg d kp u un to sc fd tp sh) sp) (F0 m 4 ls []) := by
    intro k1
    induction k1 with
    | zero =>
      intro i1 hi1 as1 H locs hC ls hl
      obtain rfl : i1 = ix (d 1) := by omega
      refine lv_iload_n hx hb dX0_havingIt_4 rfl (lv_at hl 0 rfl) ?_
      refine lv_aload_n hx hb dX0_havingIt_5 rfl (lv_at hl 2 rfl) ?_
      refine fg_get (C := RX0) (T := TX0) (N := 13) (ci := 1) (g := 5) (i := 0) (v := .ref (G.ad 0 0)) hx hb hown hts hX hC in_X0 rfl (cin rfl) rfl 3 (by decide) q425 (fun _ h => h) rfl dX0_havingIt_6 ?_
      refine fg_getN (C := RX4) (T := TX4) (N := 9) (ci := 0) (g := 0) (i := 0) (v := .int (d 1)) hx hb hown hts hX hC in_X4 rfl (cin rfl) rfl 4 (by decide) (hX.2.2.1.F q253) (fun _ h => h) rfl dX0_havingIt_9 ?_
      refine fj_ge (tgt := 39) hx hb dX0_havingIt_12 (by decide) (fun _ => ?_) (fun z_2 => absurd z_2 (nlt_ix (n := d 1)))
      refine lv_iload_n hx hb dX0_havingIt_39 rfl (lv_at hl 1 rfl) ?_
      exact fr_i hx hb hr hlocks hX hC as1 (congrArg (fun z => some (Value.int z)) (rfl)) rfl dX0_havingIt_40
    | succ k1 ih1 =>
      intro i1 hi1 as1 H locs hC ls hl
      have hz1 : i1 < 2147483648 := by have := ix_lt (d 1); omega
      refine lv_iload_n hx hb dX0_havingIt_4 rfl (lv_at hl 0 rfl) ?_
      refine lv_aload_n hx hb dX0_havingIt_5 rfl (lv_at hl 2 rfl) ?_
      refine fg_get (C := RX0) (T := TX0) (N := 13) (ci := 1) (g := 5) (i := 0) (v := .ref (G.ad 0 0)) hx hb hown hts hX hC in_X0 rfl (cin rfl) rfl 3 (by decide) q425 (fun _ h => h) rfl dX0_havingIt_6 ?_
      refine fg_getN (C := RX4) (T := TX4) (N := 9) (ci := 0) (g := 0) (i := 0) (v := .int (d 1)) hx hb hown hts hX hC in_X4 rfl (cin rfl) rfl 4 (by decide) (hX.2.2.1.F q253) (fun _ h => h) rfl dX0_havingIt_9 ?_
      refine fj_ge (tgt := 39) hx hb dX0_havingIt_12 (by decide) (fun z_3 => absurd (lt_ix (n := d 1) (show i1 < ix (d 1) by omega)) z_3) (fun _ => ?_)
      refine lv_iload_n hx hb dX0_havingIt_15 rfl (lv_at hl 1 rfl) ?_
      refine lv_aload_n hx hb dX0_havingIt_16 rfl (lv_at hl 2 rfl) ?_
      refine lv_iload_n hx hb dX0_havingIt_17 rfl (lv_at hl 0 rfl) ?_
      refine fc_VW (As := [.int (nI i1)]) (rest := [.int (p_orr (fun k => if p_has d (nI k) then 1 <<< (nI k &&& 31) else 0) i1)]) hx hb hml hown hts hX hC (m_X0_hasIt hw (nI i1) (vp_in_nI (show i1 < 8 by have := vin_lt hw.many; omega) (by decide))) (lw_VW q696 q698 qs7 q108 q699) hdV_X0_hasIt ⟨rfl, rfl⟩ ⟨Nat.le_of_ble_eq_true rfl, Nat.le_of_ble_eq_true rfl⟩ (fx_recv (g := 5) (i := 0) (ci := 1) (q := (RX0, TX0, 13)) hX hC (cin rfl) rfl rfl) hl.1 rfl (Nat.le_of_ble_eq_true rfl) ⟨Nat.zero_le _, Nat.zero_le _⟩ dX0_havingIt_18 (fun _ H locs hC => ?_)
      refine W.eq (g2 := F0 m 21 ls [.int (b2i (p_has d (nI i1))), .int (p_orr (fun k => if p_has d (nI k) then 1 <<< (nI k &&& 31) else 0) i1)]) rfl ?_
      refine fw_join (C := p_has d (nI i1)) (a := 1 <<< ((nI i1) &&& 31)) (b := 0) (pcj := 31) (ls := ls) (rest := [.int (p_orr (fun k => if p_has d (nI k) then 1 <<< (nI k &&& 31) else 0) i1)]) (fun ja jb => ?_) ?_
      · refine fb_eq (tgt := 30) hx hb dX0_havingIt_21 (by decide) (fun c_5 => ?_) (fun c_5 => ?_)
        · refine lv_iconst (v := 0) hx hb dX0_havingIt_30 rfl ?_
          exact jb c_5
        · refine lv_iconst (v := 1) hx hb dX0_havingIt_24 rfl ?_
          refine lv_iload_n hx hb dX0_havingIt_25 rfl (lv_at hl 0 rfl) ?_
          refine lv_ishl hx hb dX0_havingIt_26 ?_
          refine lv_goto (tgt := 31) hx hb dX0_havingIt_27 (by decide) ?_
          exact ja c_5
      refine lv_ior hx hb dX0_havingIt_31 ?_
      refine lv_istore_n (lv' := [(1, .int ((p_orr (fun k => if p_has d (nI k) then 1 <<< (nI k &&& 31) else 0) i1) ||| (if p_has d (nI i1) then 1 <<< ((nI i1) &&& 31) else 0))), (2, .int (nI i1)), (0, .ref (G.ad 5 0))]) hx hb dX0_havingIt_32 rfl hl (by decide) rfl (fun ls hl => ?_)
      refine lv_iinc (v := nI (i1 + 1)) (lv' := [(2, .int (nI (i1 + 1))), (1, .int ((p_orr (fun k => if p_has d (nI k) then 1 <<< (nI k &&& 31) else 0) i1) ||| (if p_has d (nI i1) then 1 <<< ((nI i1) &&& 31) else 0))), (0, .ref (G.ad 5 0))]) hx hb dX0_havingIt_33 hl (k := 1) rfl (nI_1 _) (by decide) rfl (fun ls hl => ?_)
      refine lv_goto (tgt := 4) hx hb dX0_havingIt_36 (by decide) ?_
      exact ih1 (i1 + 1) (by omega) _ _ _ hC ls (lv_sub hl [0, 1, 2] rfl)
  exact L_1 (ix (d 1)) 0 (by omega) _ _ _ hC ls (lv_sub hl [0, 1, 2] rfl)
