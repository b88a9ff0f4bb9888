theorem hdV_X13_finding : yX13_finding.cls = RX13 ∧ yX13_finding.cls ≠ "java/lang/invoke/MethodHandle" ∧ yX13_finding.cls ≠ "java/lang/invoke/VarHandle" ∧ (parseMethodDescriptor yX13_finding.desc).map (fun d => d.parameters.length) = some 1 := by decide +kernel
theorem hdS_X13_mayLie : yX13_mayLie.cls ≠ "java/lang/invoke/MethodHandle" ∧ yX13_mayLie.cls ≠ "java/lang/invoke/VarHandle" ∧ (parseMethodDescriptor yX13_mayLie.desc).map (fun d => d.parameters.length) = some 2 := by decide +kernel
theorem hdS_X13_lies : yX13_lies.cls ≠ "java/lang/invoke/MethodHandle" ∧ yX13_lies.cls ≠ "java/lang/invoke/VarHandle" ∧ (parseMethodDescriptor yX13_lies.desc).map (fun d => d.parameters.length) = some 2 := by decide +kernel
theorem hdV_X13_become : yX13_become.cls = RX13 ∧ yX13_become.cls ≠ "java/lang/invoke/MethodHandle" ∧ yX13_become.cls ≠ "java/lang/invoke/VarHandle" ∧ (parseMethodDescriptor yX13_become.desc).map (fun d => d.parameters.length) = some 2 := by decide +kernel
theorem hdS_X13_isHeading : yX13_isHeading.cls ≠ "java/lang/invoke/MethodHandle" ∧ yX13_isHeading.cls ≠ "java/lang/invoke/VarHandle" ∧ (parseMethodDescriptor yX13_isHeading.desc).map (fun d => d.parameters.length) = some 1 := by decide +kernel
theorem hdV_X13_mayBeMouse : yX13_mayBeMouse.cls = RX13 ∧ yX13_mayBeMouse.cls ≠ "java/lang/invoke/MethodHandle" ∧ yX13_mayBeMouse.cls ≠ "java/lang/invoke/VarHandle" ∧ (parseMethodDescriptor yX13_mayBeMouse.desc).map (fun d => d.parameters.length) = some 2 := by decide +kernel
theorem hdV_X13_comes : yX13_comes.cls = RX13 ∧ yX13_comes.cls ≠ "java/lang/invoke/MethodHandle" ∧ yX13_comes.cls ≠ "java/lang/invoke/VarHandle" ∧ (parseMethodDescriptor yX13_comes.desc).map (fun d => d.parameters.length) = some 3 := by decide +kernel
theorem hdV_X13_isStrike : yX13_isStrike.cls = RX13 ∧ yX13_isStrike.cls ≠ "java/lang/invoke/MethodHandle" ∧ yX13_isStrike.cls ≠ "java/lang/invoke/VarHandle" ∧ (parseMethodDescriptor yX13_isStrike.desc).map (fun d => d.parameters.length) = some 1 := by decide +kernel
theorem hdS_X13_mayBe : yX13_mayBe.cls ≠ "java/lang/invoke/MethodHandle" ∧ yX13_mayBe.cls ≠ "java/lang/invoke/VarHandle" ∧ (parseMethodDescriptor yX13_mayBe.desc).map (fun d => d.parameters.length) = some 2 := by decide +kernel
theorem hdV_X13_strikesNow : yX13_strikesNow.cls = RX13 ∧ yX13_strikesNow.cls ≠ "java/lang/invoke/MethodHandle" ∧ yX13_strikesNow.cls ≠ "java/lang/invoke/VarHandle" ∧ (parseMethodDescriptor yX13_strikesNow.desc).map (fun d => d.parameters.length) = some 1 := by decide +kernel
theorem hdV_X13_has : yX13_has.cls = RX13 ∧ yX13_has.cls ≠ "java/lang/invoke/MethodHandle" ∧ yX13_has.cls ≠ "java/lang/invoke/VarHandle" ∧ (parseMethodDescriptor yX13_has.desc).map (fun d => d.parameters.length) = some 1 := by decide +kernel
theorem hdV_X13_hears : yX13_hears.cls = RX13 ∧ yX13_hears.cls ≠ "java/lang/invoke/MethodHandle" ∧ yX13_hears.cls ≠ "java/lang/invoke/VarHandle" ∧ (parseMethodDescriptor yX13_hears.desc).map (fun d => d.parameters.length) = some 0 := by decide +kernel
theorem hdV_X13_having : yX13_having.cls = RX13 ∧ yX13_having.cls ≠ "java/lang/invoke/MethodHandle" ∧ yX13_having.cls ≠ "java/lang/invoke/VarHandle" ∧ (parseMethodDescriptor yX13_having.desc).map (fun d => d.parameters.length) = some 0 := by decide +kernel
theorem hdV_X13_hadAll : yX13_hadAll.cls = RX13 ∧ yX13_hadAll.cls ≠ "java/lang/invoke/MethodHandle" ∧ yX13_hadAll.cls ≠ "java/lang/invoke/VarHandle" ∧ (parseMethodDescriptor yX13_hadAll.desc).map (fun d => d.parameters.length) = some 0 := by decide +kernel
theorem hdV_X13_snowAll : yX13_snowAll.cls = RX13 ∧ yX13_snowAll.cls ≠ "java/lang/invoke/MethodHandle" ∧ yX13_snowAll.cls ≠ "java/lang/invoke/VarHandle" ∧ (parseMethodDescriptor yX13_snowAll.desc).map (fun d => d.parameters.length) = some 0 := by decide +kernel
theorem hdS_X13_isAheadBy : yX13_isAheadBy.cls ≠ "java/lang/invoke/MethodHandle" ∧ yX13_isAheadBy.cls ≠ "java/lang/invoke/VarHandle" ∧ (parseMethodDescriptor yX13_isAheadBy.desc).map (fun d => d.parameters.length) = some 1 := by decide +kernel
theorem hdV_X13_putBack : yX13_putBack.cls = RX13 ∧ yX13_putBack.cls ≠ "java/lang/invoke/MethodHandle" ∧ yX13_putBack.cls ≠ "java/lang/invoke/VarHandle" ∧ (parseMethodDescriptor yX13_putBack.desc).map (fun d => d.parameters.length) = some 1 := by decide +kernel
set_option maxRecDepth 100000 in
theorem m_X13_orNone {l : Launch} {G : Gm} {d kp as bf sc fd tp it ws sz nu mv : Row} (v : Int32) : Cm l yX13_orNone (ws_ yX13_orNone cX13_orNone 2 (some .int)) ({ frames := 1, cells := 0, slots := 0, locals := 21 }) (mF G) [.ref (G.ad 0 0), .int v] (mct G (mpg d kp as bf sc fd tp it ws sz nu mv)) (fun _ : Unit => some (.int (if v < 0 then -1000004 else v))) (fun _ => mct G (mpg d kp as bf sc (if v < 0 then p_find fd 3 else fd) tp it ws sz nu mv)) := by
  refine Cm.start (by decide) (Nat.le_of_ble_eq_true rfl) ?_
  intro p e s m below meth c hf hX hC ls hl
  obtain ⟨hx, hb, hr, hml, hown, hts, hlocks⟩ := hf
  have hl : lv_has ls 2 [(0, .ref (G.ad 0 0)), (1, .int v)] := hl
  have hown : s.vm.findClass "OwlEarsModel" = some m.cls := hown
  refine lv_iload_n hx hb dX13_orNone_0 rfl (lv_at hl 1 rfl) ?_
  refine fi_ge (tgt := 13) hx hb dX13_orNone_1 (by decide) (fun c_1 => ?_) (fun c_1 => ?_)
  · refine lv_iload_n hx hb dX13_orNone_13 rfl (lv_at hl 1 rfl) ?_
    exact fr_i hx hb hr hlocks hX hC () (congrArg (fun z => some (Value.int z)) (by first | rfl | (simp [c_1]))) (congrArg (fun z => mct G (mpg d kp as bf sc z tp it ws sz nu mv)) (by first | rfl | (simp [c_1]))) dX13_orNone_14
  · refine lv_aload_n hx hb dX13_orNone_4 rfl (lv_at hl 0 rfl) ?_
    refine lv_ldc (v := (-1000004)) hx hb hown (hts _ q1570) dX13_orNone_5 ?_
    refine fc_V (As := [.int (-1000004)]) (rest := []) hx hb hml hown hts hX hC (m_X13_finding 3 (vin_b rfl)) (lw_V q1404 q1406 qs56 q124 q1407) hdV_X13_finding ⟨rfl, rfl⟩ ⟨Nat.le_of_ble_eq_true rfl, Nat.le_of_ble_eq_true rfl⟩ (fx_recv (g := 0) (i := 0) (ci := 0) (q := (RX13, TX13, 24)) hX hC (min_ (by decide)) rfl rfl) hl.1 rfl (Nat.le_of_ble_eq_true rfl) ⟨Nat.zero_le _, Nat.zero_le _⟩ dX13_orNone_7 (fun _ H locs hC => ?_)
    refine W.eq (g2 := F0 m 10 ls [.int (-1000004)]) rfl ?_
    refine lv_goto (tgt := 14) hx hb dX13_orNone_10 (by decide) ?_
    exact fr_i hx hb hr hlocks hX hC () (congrArg (fun z => some (Value.int z)) (by first | rfl | (simp [c_1]))) (congrArg (fun z => mct G (mpg d kp as bf sc z tp it ws sz nu mv)) (by first | rfl | (simp [c_1]))) dX13_orNone_14
set_option maxRecDepth 100000 in
theorem m_X13_putBack {l : Launch} {G : Gm} {d kp as bf sc fd tp it ws sz nu mv : Row} (v : Int32) : Cm l yX13_putBack (ws_ yX13_putBack cX13_putBack 2 (some .int)) ({ frames := 1, cells := 0, slots := 0, locals := 22 }) (mF G) [.ref (G.ad 0 0), .int v] (mct G (mpg d kp as bf sc fd tp it ws sz nu mv)) (fun _ : Unit => some (.int v)) (fun _ => mct G (mpg as kp as bf sc fd tp it ws sz nu mv)) := by
  refine Cm.start (by decide) (Nat.le_of_ble_eq_true rfl) ?_
  intro p e s m below meth c hf hX hC ls hl
  obtain ⟨hx, hb, hr, hml, hown, hts, hlocks⟩ := hf
  have hl : lv_has ls 2 [(0, .ref (G.ad 0 0)), (1, .int v)] := hl
  have hown : s.vm.findClass "OwlEarsModel" = some m.cls := hown
  refine lv_aload_n hx hb dX13_putBack_0 rfl (lv_at hl 0 rfl) ?_
  refine fg_get (C := RX13) (T := TX13) (N := 24) (ci := 0) (g := 0) (i := 0) (v := .ref (G.ad 0 3)) hx hb hown hts hX hC in_X13 rfl (min_ (by decide)) rfl 2 (by decide) q1312 (fun _ h => h) rfl dX13_putBack_1 ?_
  refine lv_aload_n hx hb dX13_putBack_4 rfl (lv_at hl 0 rfl) ?_
  refine fg_get (C := RX13) (T := TX13) (N := 24) (ci := 0) (g := 0) (i := 0) (v := .ref (G.ad 0 1)) hx hb hown hts hX hC in_X13 rfl (min_ (by decide)) rfl 0 (by decide) q1310 (fun _ h => h) rfl dX13_putBack_5 ?_
  refine fc_S (As := [.ref (G.ad 0 3), .ref (G.ad 0 1)]) (rest := []) hx hb hml hown hts hX hC (m_X13_copyRow (g1 := 0) (i1 := 3) (g2 := 0) (i2 := 1) (t0 := 0) (ctn := mct G (mpg as kp as bf sc fd tp it ws sz nu mv)) (min_ (by decide)) rfl (min_ (by decide)) rfl rfl (by decide) (mu mp1 (fun _ _ h => h))) (lw_S q1491 q1492 q124 q1493) hdS_X13_copyRow ⟨rfl, rfl⟩ ⟨Nat.le_of_ble_eq_true rfl, Nat.le_of_ble_eq_true rfl⟩ hl.1 rfl (Nat.le_of_ble_eq_true rfl) ⟨Nat.zero_le _, Nat.zero_le _⟩ dX13_putBack_8 (fun _ H locs hC => ?_)
  refine W.eq (g2 := F0 m 11 ls []) rfl ?_
  refine lv_iload_n hx hb dX13_putBack_11 rfl (lv_at hl 1 rfl) ?_
  exact fr_i hx hb hr hlocks hX hC () rfl rfl dX13_putBack_12
set_option maxRecDepth 100000 in
theorem m_X13_isStrike {l : Launch} {G : Gm} {d kp as bf sc fd tp it ws sz nu mv : Row} (k : Int32) : Cm l yX13_isStrike (ws_ yX13_isStrike cX13_isStrike 2 (some .boolean)) ({ frames := 1, cells := 0, slots := 0, locals := 22 }) (mF G) [.ref (G.ad 0 0), .int k] (mct G (mpg d kp as bf sc fd tp it ws sz nu mv)) (fun _ : Unit => some (.int (b2i (p_in k 0 (d 1 - 1))))) (fun _ => mct G (mpg d kp as bf sc fd tp it ws sz nu mv)) := by
  refine Cm.start (by decide) (Nat.le_of_ble_eq_true rfl) ?_
  intro p e s m below meth c hf hX hC ls hl
  obtain ⟨hx, hb, hr, hml, hown, hts, hlocks⟩ := hf
  have hl : lv_has ls 2 [(0, .ref (G.ad 0 0)), (1, .int k)] := hl
  have hown : s.vm.findClass "OwlEarsModel" = some m.cls := hown
  refine lv_iload_n hx hb dX13_isStrike_0 rfl (lv_at hl 1 rfl) ?_
  refine lv_iconst (v := 0) hx hb dX13_isStrike_1 rfl ?_
  refine lv_aload_n hx hb dX13_isStrike_2 rfl (lv_at hl 0 rfl) ?_
  refine fg_get (C := RX13) (T := TX13) (N := 24) (ci := 0) (g := 0) (i := 0) (v := .ref (G.ad 0 1)) hx hb hown hts hX hC in_X13 rfl (min_ (by decide)) rfl 0 (by decide) q1310 (fun _ h => h) rfl dX13_isStrike_3 ?_
  refine lv_iconst (v := 1) hx hb dX13_isStrike_6 rfl ?_
  refine fg_iald (g := 0) (i := 1) (t0 := 0) (v := d 1) hx hb hX hC (min_ (by decide)) rfl rfl (vin_b rfl) rfl dX13_isStrike_7 ?_
  refine lv_iconst (v := 1) hx hb dX13_isStrike_8 rfl ?_
  refine lv_isub hx hb dX13_isStrike_9 ?_
  refine fc_S (As := [.int k, .int 0, .int ((d 1) - 1)]) (rest := []) hx hb hml hown hts hX hC (m_X13_within k 0 ((d 1) - 1)) (lw_S q1390 q1391 q124 q1392) hdS_X13_within ⟨rfl, rfl⟩ ⟨Nat.le_of_ble_eq_true rfl, Nat.le_of_ble_eq_true rfl⟩ hl.1 rfl (Nat.le_of_ble_eq_true rfl) ⟨Nat.zero_le _, Nat.zero_le _⟩ dX13_isStrike_10 (fun _ H locs hC => ?_)
  refine W.eq (g2 := F0 m 13 ls [.int (b2i (p_in k 0 ((d 1) - 1)))]) rfl ?_
  exact fr_z hx hb hr nar_b2i hlocks hX hC () (congrArg (fun z => some (Value.int z)) (b2i_c (by first | rfl | (simp [])))) rfl dX13_isStrike_13
set_option maxRecDepth 100000 in
theorem m_X13_cell {l : Launch} {G : Gm} {d kp as bf sc fd tp it ws sz nu mv : Row} (c0 what v : Int32) : Cm l yX13_cell (ws_ yX13_cell cX13_cell 4 (some .int)) ({ frames := 2, cells := 0, slots := 0, locals := 43 }) (mF G) [.ref (G.ad 0 0), .int c0, .int what, .int v] (mct G (mpg d kp as bf sc fd tp it ws sz nu mv)) (fun _ : Unit => some (.int ((s_cell d fd c0 what v).1))) (fun _ => mct G (mpg ((s_cell d fd c0 what v).2.1) kp as bf sc ((s_cell d fd c0 what v).2.2) tp it ws sz nu mv)) := by
  refine Cm.start (by decide) (Nat.le_of_ble_eq_true rfl) ?_
  intro p e s m below meth c hf hX hC ls hl
  obtain ⟨hx, hb, hr, hml, hown, hts, hlocks⟩ := hf
  have hl : lv_has ls 4 [(0, .ref (G.ad 0 0)), (1, .int c0), (2, .int what), (3, .int v)] := hl
  have hown : s.vm.findClass "OwlEarsModel" = some m.cls := hown
  refine lv_iload_n hx hb dX13_cell_0 rfl (lv_at hl 1 rfl) ?_
  refine fc_S (As := [.int c0]) (rest := []) hx hb hml hown hts hX hC (m_X13_isCell c0) (lw_S q1387 q1388 q124 q1389) hdS_X13_isCell ⟨rfl, rfl⟩ ⟨Nat.le_of_ble_eq_true rfl, Nat.le_of_ble_eq_true rfl⟩ hl.1 rfl (Nat.le_of_ble_eq_true rfl) ⟨Nat.zero_le _, Nat.zero_le _⟩ dX13_cell_1 (fun _ H locs hC => ?_)
  refine W.eq (g2 := F0 m 4 ls [.int (b2i (p_in c0 0 35))]) rfl ?_
  refine fb_eq (tgt := 28) hx hb dX13_cell_4 (by decide) (fun c_2 => ?_) (fun c_2 => ?_)
  · refine lv_aload_n hx hb dX13_cell_28 rfl (lv_at hl 0 rfl) ?_
    refine lv_ldc (v := (-1000001)) hx hb hown (hts _ q1403) dX13_cell_29 ?_
    refine fc_V (As := [.int (-1000001)]) (rest := []) hx hb hml hown hts hX hC (m_X13_finding 0 (vin_b rfl)) (lw_V q1404 q1406 qs56 q124 q1407) hdV_X13_finding ⟨rfl, rfl⟩ ⟨Nat.le_of_ble_eq_true rfl, Nat.le_of_ble_eq_true rfl⟩ (fx_recv (g := 0) (i := 0) (ci := 0) (q := (RX13, TX13, 24)) hX hC (min_ (by decide)) rfl rfl) hl.1 rfl (Nat.le_of_ble_eq_true rfl) ⟨Nat.zero_le _, Nat.zero_le _⟩ dX13_cell_31 (fun _ H locs hC => ?_)
    refine W.eq (g2 := F0 m 34 ls [.int (-1000001)]) rfl ?_
    have hs : s_cell d fd c0 what v = (((-1000001), d, p_find fd 0) : Int32 × Row × Row) := by grind [s_cell, in01]
    exact fr_i hx hb hr hlocks hX hC () (congrArg (fun z => some (Value.int z)) (t3_1 hs)) ((congrArg (fun z => mct G (mpg z kp as bf sc ((s_cell d fd c0 what v).2.2) tp it ws sz nu mv)) (t3_2 hs)).trans (congrArg (fun z => mct G (mpg d kp as bf sc z tp it ws sz nu mv)) (t3_3 hs))).symm dX13_cell_34
  · refine lv_iload_n hx hb dX13_cell_7 rfl (lv_at hl 2 rfl) ?_
    refine lv_iload_n hx hb dX13_cell_8 rfl (lv_at hl 3 rfl) ?_
    refine fc_S (As := [.int what, .int v]) (rest := []) hx hb hml hown hts hX hC (m_X13_mayLie what v) (lw_S q1393 q1394 q124 q1395) hdS_X13_mayLie ⟨rfl, rfl⟩ ⟨Nat.le_of_ble_eq_true rfl, Nat.le_of_ble_eq_true rfl⟩ hl.1 rfl (Nat.le_of_ble_eq_true rfl) ⟨Nat.zero_le _, Nat.zero_le _⟩ dX13_cell_9 (fun _ H locs hC => ?_)
    refine W.eq (g2 := F0 m 12 ls [.int (b2i (p_mayLie what v))]) rfl ?_
    refine fb_eq (tgt := 28) hx hb dX13_cell_12 (by decide) (fun c_4 => ?_) (fun c_4 => ?_)
    · refine lv_aload_n hx hb dX13_cell_28 rfl (lv_at hl 0 rfl) ?_
      refine lv_ldc (v := (-1000001)) hx hb hown (hts _ q1403) dX13_cell_29 ?_
      refine fc_V (As := [.int (-1000001)]) (rest := []) hx hb hml hown hts hX hC (m_X13_finding 0 (vin_b rfl)) (lw_V q1404 q1406 qs56 q124 q1407) hdV_X13_finding ⟨rfl, rfl⟩ ⟨Nat.le_of_ble_eq_true rfl, Nat.le_of_ble_eq_true rfl⟩ (fx_recv (g := 0) (i := 0) (ci := 0) (q := (RX13, TX13, 24)) hX hC (min_ (by decide)) rfl rfl) hl.1 rfl (Nat.le_of_ble_eq_true rfl) ⟨Nat.zero_le _, Nat.zero_le _⟩ dX13_cell_31 (fun _ H locs hC => ?_)
      refine W.eq (g2 := F0 m 34 ls [.int (-1000001)]) rfl ?_
      have hs : s_cell d fd c0 what v = (((-1000001), d, p_find fd 0) : Int32 × Row × Row) := by grind [s_cell, in01]
      exact fr_i hx hb hr hlocks hX hC () (congrArg (fun z => some (Value.int z)) (t3_1 hs)) ((congrArg (fun z => mct G (mpg z kp as bf sc ((s_cell d fd c0 what v).2.2) tp it ws sz nu mv)) (t3_2 hs)).trans (congrArg (fun z => mct G (mpg d kp as bf sc z tp it ws sz nu mv)) (t3_3 hs))).symm dX13_cell_34
    · by_cases c_5 : what = 0
      · refine lv_aload_n hx hb dX13_cell_15 rfl (lv_at hl 0 rfl) ?_
        refine lv_iload_n hx hb dX13_cell_16 rfl (lv_at hl 1 rfl) ?_
        refine lv_iload_n hx hb dX13_cell_17 rfl (lv_at hl 2 rfl) ?_
        refine fc_S (As := [.int c0, .int what]) (rest := [.ref (G.ad 0 0)]) hx hb hml hown hts hX hC (m_X13_lies_20 c0 what c_5) (lw_S q1396 q1397 q124 q1398) hdS_X13_lies ⟨rfl, rfl⟩ ⟨Nat.le_of_ble_eq_true rfl, Nat.le_of_ble_eq_true rfl⟩ hl.1 rfl (Nat.le_of_ble_eq_true rfl) ⟨Nat.zero_le _, Nat.zero_le _⟩ dX13_cell_18 (fun _ H locs hC => ?_)
        refine W.eq (g2 := F0 m 21 ls [.int (20 + c0), .ref (G.ad 0 0)]) rfl ?_
        refine lv_iload_n hx hb dX13_cell_21 rfl (lv_at hl 3 rfl) ?_
        refine fc_V (As := [.int (20 + c0), .int v]) (rest := []) hx hb hml hown hts hX hC (m_X13_become (20 + c0) v (20 + ix c0) (ixp 20 (vin_of c_2 36 (by decide)) (by decide)) (vinp 20 (vin_of c_2 36 (by decide)) (by decide) (by decide))) (lw_V q1399 q1401 qs55 q124 q1402) hdV_X13_become ⟨rfl, rfl⟩ ⟨Nat.le_of_ble_eq_true rfl, Nat.le_of_ble_eq_true rfl⟩ (fx_recv (g := 0) (i := 0) (ci := 0) (q := (RX13, TX13, 24)) hX hC (min_ (by decide)) rfl rfl) hl.1 rfl (Nat.le_of_ble_eq_true rfl) ⟨Nat.zero_le _, Nat.zero_le _⟩ dX13_cell_22 (fun _ H locs hC => ?_)
        refine W.eq (g2 := F0 m 25 ls [.int (d (20 + ix c0))]) rfl ?_
        refine lv_goto (tgt := 34) hx hb dX13_cell_25 (by decide) ?_
        have hs : s_cell d fd c0 what v = ((d (20 + ix c0), upd d (20 + ix c0) v, fd) : Int32 × Row × Row) := by grind [s_cell, in01]
        exact fr_i hx hb hr hlocks hX hC () (congrArg (fun z => some (Value.int z)) (t3_1 hs)) ((congrArg (fun z => mct G (mpg z kp as bf sc ((s_cell d fd c0 what v).2.2) tp it ws sz nu mv)) (t3_2 hs)).trans (congrArg (fun z => mct G (mpg (upd d (20 + ix c0) v) kp as bf sc z tp it ws sz nu mv)) (t3_3 hs))).symm dX13_cell_34
      · refine lv_aload_n hx hb dX13_cell_15 rfl (lv_at hl 0 rfl) ?_
        refine lv_iload_n hx hb dX13_cell_16 rfl (lv_at hl 1 rfl) ?_
        refine lv_iload_n hx hb dX13_cell_17 rfl (lv_at hl 2 rfl) ?_
        refine fc_S (As := [.int c0, .int what]) (rest := [.ref (G.ad 0 0)]) hx hb hml hown hts hX hC (m_X13_lies_56 c0 what c_5) (lw_S q1396 q1397 q124 q1398) hdS_X13_lies ⟨rfl, rfl⟩ ⟨Nat.le_of_ble_eq_true rfl, Nat.le_of_ble_eq_true rfl⟩ hl.1 rfl (Nat.le_of_ble_eq_true rfl) ⟨Nat.zero_le _, Nat.zero_le _⟩ dX13_cell_18 (fun _ H locs hC => ?_)
        refine W.eq (g2 := F0 m 21 ls [.int (56 + c0), .ref (G.ad 0 0)]) rfl ?_
        refine lv_iload_n hx hb dX13_cell_21 rfl (lv_at hl 3 rfl) ?_
        refine fc_V (As := [.int (56 + c0), .int v]) (rest := []) hx hb hml hown hts hX hC (m_X13_become (56 + c0) v (56 + ix c0) (ixp 56 (vin_of c_2 36 (by decide)) (by decide)) (vinp 56 (vin_of c_2 36 (by decide)) (by decide) (by decide))) (lw_V q1399 q1401 qs55 q124 q1402) hdV_X13_become ⟨rfl, rfl⟩ ⟨Nat.le_of_ble_eq_true rfl, Nat.le_of_ble_eq_true rfl⟩ (fx_recv (g := 0) (i := 0) (ci := 0) (q := (RX13, TX13, 24)) hX hC (min_ (by decide)) rfl rfl) hl.1 rfl (Nat.le_of_ble_eq_true rfl) ⟨Nat.zero_le _, Nat.zero_le _⟩ dX13_cell_22 (fun _ H locs hC => ?_)
        refine W.eq (g2 := F0 m 25 ls [.int (d (56 + ix c0))]) rfl ?_
        refine lv_goto (tgt := 34) hx hb dX13_cell_25 (by decide) ?_
        have hs : s_cell d fd c0 what v = ((d (56 + ix c0), upd d (56 + ix c0) v, fd) : Int32 × Row × Row) := by grind [s_cell, in01]
        exact fr_i hx hb hr hlocks hX hC () (congrArg (fun z => some (Value.int z)) (t3_1 hs)) ((congrArg (fun z => mct G (mpg z kp as bf sc ((s_cell d fd c0 what v).2.2) tp it ws sz nu mv)) (t3_2 hs)).trans (congrArg (fun z => mct G (mpg (upd d (56 + ix c0) v) kp as bf sc z tp it ws sz nu mv)) (t3_3 hs))).symm dX13_cell_34
set_option maxRecDepth 100000 in
theorem m_X13_cellOf {l : Launch} {G : Gm} {d kp as bf sc fd tp it ws sz nu mv : Row} (hw : WF d) (c0 what : Int32) : Cm l yX13_cellOf (ws_ yX13_cellOf cX13_cellOf 3 (some .int)) ({ frames := 3, cells := 0, slots := 0, locals := 61 }) (mF G) [.ref (G.ad 0 0), .int c0, .int what] (mct G (mpg d kp as bf sc fd tp it ws sz nu mv)) (fun _ : Unit => some (.int ((s_cellOf d fd c0 what).1))) (fun _ => mct G (mpg d kp as bf sc ((s_cellOf d fd c0 what).2) tp it ws sz nu mv)) := by
  refine Cm.start (by decide) (Nat.le_of_ble_eq_true rfl) ?_
  intro p e s m below meth c hf hX hC ls hl
  obtain ⟨hx, hb, hr, hml, hown, hts, hlocks⟩ := hf
  have hl : lv_has ls 3 [(0, .ref (G.ad 0 0)), (1, .int c0), (2, .int what)] := hl
  have hown : s.vm.findClass "OwlEarsModel" = some m.cls := hown
  refine lv_iload_n hx hb dX13_cellOf_0 rfl (lv_at hl 1 rfl) ?_
  refine fc_S (As := [.int c0]) (rest := []) hx hb hml hown hts hX hC (m_X13_isCell c0) (lw_S q1387 q1388 q124 q1389) hdS_X13_isCell ⟨rfl, rfl⟩ ⟨Nat.le_of_ble_eq_true rfl, Nat.le_of_ble_eq_true rfl⟩ hl.1 rfl (Nat.le_of_ble_eq_true rfl) ⟨Nat.zero_le _, Nat.zero_le _⟩ dX13_cellOf_1 (fun _ H locs hC => ?_)
  refine W.eq (g2 := F0 m 4 ls [.int (b2i (p_in c0 0 35))]) rfl ?_
  refine fb_eq (tgt := 16) hx hb dX13_cellOf_4 (by decide) (fun c_2 => ?_) (fun c_2 => ?_)
  · refine lv_aload_n hx hb dX13_cellOf_16 rfl (lv_at hl 0 rfl) ?_
    refine lv_ldc (v := (-1000001)) hx hb hown (hts _ q1403) dX13_cellOf_17 ?_
    refine fc_V (As := [.int (-1000001)]) (rest := []) hx hb hml hown hts hX hC (m_X13_finding 0 (vin_b rfl)) (lw_V q1404 q1406 qs56 q124 q1407) hdV_X13_finding ⟨rfl, rfl⟩ ⟨Nat.le_of_ble_eq_true rfl, Nat.le_of_ble_eq_true rfl⟩ (fx_recv (g := 0) (i := 0) (ci := 0) (q := (RX13, TX13, 24)) hX hC (min_ (by decide)) rfl rfl) hl.1 rfl (Nat.le_of_ble_eq_true rfl) ⟨Nat.zero_le _, Nat.zero_le _⟩ dX13_cellOf_19 (fun _ H locs hC => ?_)
    refine W.eq (g2 := F0 m 22 ls [.int (-1000001)]) rfl ?_
    have hs : s_cellOf d fd c0 what = (((-1000001), p_find fd 0) : Int32 × Row) := by grind [s_cellOf, in02]
    exact fr_i hx hb hr hlocks hX hC () (congrArg (fun z => some (Value.int z)) (t2_1 hs)) (congrArg (fun z => mct G (mpg d kp as bf sc z tp it ws sz nu mv)) (t2_2 hs)).symm dX13_cellOf_22
  · refine lv_iload_n hx hb dX13_cellOf_7 rfl (lv_at hl 2 rfl) ?_
    refine lv_iconst (v := 0) hx hb dX13_cellOf_8 rfl ?_
    refine lv_iconst (v := 2) hx hb dX13_cellOf_9 rfl ?_
    refine fc_S (As := [.int what, .int 0, .int 2]) (rest := []) hx hb hml hown hts hX hC (m_X13_within what 0 2) (lw_S q1390 q1391 q124 q1392) hdS_X13_within ⟨rfl, rfl⟩ ⟨Nat.le_of_ble_eq_true rfl, Nat.le_of_ble_eq_true rfl⟩ hl.1 rfl (Nat.le_of_ble_eq_true rfl) ⟨Nat.zero_le _, Nat.zero_le _⟩ dX13_cellOf_10 (fun _ H locs hC => ?_)
    refine W.eq (g2 := F0 m 13 ls [.int (b2i (p_in what 0 2))]) rfl ?_
    refine fb_ne (tgt := 23) hx hb dX13_cellOf_13 (by decide) (fun c_4 => ?_) (fun c_4 => ?_)
    · refine lv_iload_n hx hb dX13_cellOf_23 rfl (lv_at hl 2 rfl) ?_
      refine lv_iconst (v := 2) hx hb dX13_cellOf_24 rfl ?_
      refine lv_icmp_ne (tgt := 36) hx hb dX13_cellOf_25 (by decide) (fun c_5 => ?_) (fun c_5 => ?_)
      · by_cases c_6 : what = 0
        · refine lv_aload_n hx hb dX13_cellOf_36 rfl (lv_at hl 0 rfl) ?_
          refine fg_get (C := RX13) (T := TX13) (N := 24) (ci := 0) (g := 0) (i := 0) (v := .ref (G.ad 0 1)) hx hb hown hts hX hC in_X13 rfl (min_ (by decide)) rfl 0 (by decide) q1310 (fun _ h => h) rfl dX13_cellOf_37 ?_
          refine lv_iload_n hx hb dX13_cellOf_40 rfl (lv_at hl 1 rfl) ?_
          refine lv_iload_n hx hb dX13_cellOf_41 rfl (lv_at hl 2 rfl) ?_
          refine fc_S (As := [.int c0, .int what]) (rest := [.ref (G.ad 0 1)]) hx hb hml hown hts hX hC (m_X13_lies_20 c0 what c_6) (lw_S q1396 q1397 q124 q1398) hdS_X13_lies ⟨rfl, rfl⟩ ⟨Nat.le_of_ble_eq_true rfl, Nat.le_of_ble_eq_true rfl⟩ hl.1 rfl (Nat.le_of_ble_eq_true rfl) ⟨Nat.zero_le _, Nat.zero_le _⟩ dX13_cellOf_42 (fun _ H locs hC => ?_)
          refine W.eq (g2 := F0 m 45 ls [.int (20 + c0), .ref (G.ad 0 1)]) rfl ?_
          refine fg_iald (g := 0) (i := 1) (t0 := 0) (v := d (20 + ix c0)) hx hb hX hC (min_ (by decide)) rfl rfl (vinp 20 (vin_of c_2 36 (by decide)) (by decide) (by decide)) (congrArg d (ixp 20 (vin_of c_2 36 (by decide)) (by decide))) dX13_cellOf_45 ?_
          have hs : s_cellOf d fd c0 what = ((d (20 + ix c0), fd) : Int32 × Row) := by grind [s_cellOf, in02]
          exact fr_i hx hb hr hlocks hX hC () (congrArg (fun z => some (Value.int z)) (t2_1 hs)) (congrArg (fun z => mct G (mpg d kp as bf sc z tp it ws sz nu mv)) (t2_2 hs)).symm dX13_cellOf_46
        · refine lv_aload_n hx hb dX13_cellOf_36 rfl (lv_at hl 0 rfl) ?_
          refine fg_get (C := RX13) (T := TX13) (N := 24) (ci := 0) (g := 0) (i := 0) (v := .ref (G.ad 0 1)) hx hb hown hts hX hC in_X13 rfl (min_ (by decide)) rfl 0 (by decide) q1310 (fun _ h => h) rfl dX13_cellOf_37 ?_
          refine lv_iload_n hx hb dX13_cellOf_40 rfl (lv_at hl 1 rfl) ?_
          refine lv_iload_n hx hb dX13_cellOf_41 rfl (lv_at hl 2 rfl) ?_
          refine fc_S (As := [.int c0, .int what]) (rest := [.ref (G.ad 0 1)]) hx hb hml hown hts hX hC (m_X13_lies_56 c0 what c_6) (lw_S q1396 q1397 q124 q1398) hdS_X13_lies ⟨rfl, rfl⟩ ⟨Nat.le_of_ble_eq_true rfl, Nat.le_of_ble_eq_true rfl⟩ hl.1 rfl (Nat.le_of_ble_eq_true rfl) ⟨Nat.zero_le _, Nat.zero_le _⟩ dX13_cellOf_42 (fun _ H locs hC => ?_)
          refine W.eq (g2 := F0 m 45 ls [.int (56 + c0), .ref (G.ad 0 1)]) rfl ?_
          refine fg_iald (g := 0) (i := 1) (t0 := 0) (v := d (56 + ix c0)) hx hb hX hC (min_ (by decide)) rfl rfl (vinp 56 (vin_of c_2 36 (by decide)) (by decide) (by decide)) (congrArg d (ixp 56 (vin_of c_2 36 (by decide)) (by decide))) dX13_cellOf_45 ?_
          have hs : s_cellOf d fd c0 what = ((d (56 + ix c0), fd) : Int32 × Row) := by grind [s_cellOf, in02]
          exact fr_i hx hb hr hlocks hX hC () (congrArg (fun z => some (Value.int z)) (t2_1 hs)) (congrArg (fun z => mct G (mpg d kp as bf sc z tp it ws sz nu mv)) (t2_2 hs)).symm dX13_cellOf_46
      · refine lv_aload_n hx hb dX13_cellOf_28 rfl (lv_at hl 0 rfl) ?_
        refine lv_iload_n hx hb dX13_cellOf_29 rfl (lv_at hl 1 rfl) ?_
        refine fc_V (As := [.int c0]) (rest := []) hx hb hml hown hts hX hC (m_X13_loudAt hw c0) (lw_V q1412 q1414 qs57 q124 q1415) hdV_X13_loudAt ⟨rfl, rfl⟩ ⟨Nat.le_of_ble_eq_true rfl, Nat.le_of_ble_eq_true rfl⟩ (fx_recv (g := 0) (i := 0) (ci := 0) (q := (RX13, TX13, 24)) hX hC (min_ (by decide)) rfl rfl) hl.1 rfl (Nat.le_of_ble_eq_true rfl) ⟨Nat.zero_le _, Nat.zero_le _⟩ dX13_cellOf_30 (fun _ H locs hC => ?_)
        refine W.eq (g2 := F0 m 33 ls [.int (p_loudAt d c0)]) rfl ?_
        refine lv_goto (tgt := 46) hx hb dX13_cellOf_33 (by decide) ?_
        have hs : s_cellOf d fd c0 what = ((p_loudAt d c0, fd) : Int32 × Row) := by grind [s_cellOf, in02]
        exact fr_i hx hb hr hlocks hX hC () (congrArg (fun z => some (Value.int z)) (t2_1 hs)) (congrArg (fun z => mct G (mpg d kp as bf sc z tp it ws sz nu mv)) (t2_2 hs)).symm dX13_cellOf_46
    · refine lv_aload_n hx hb dX13_cellOf_16 rfl (lv_at hl 0 rfl) ?_
      refine lv_ldc (v := (-1000001)) hx hb hown (hts _ q1403) dX13_cellOf_17 ?_
      refine fc_V (As := [.int (-1000001)]) (rest := []) hx hb hml hown hts hX hC (m_X13_finding 0 (vin_b rfl)) (lw_V q1404 q1406 qs56 q124 q1407) hdV_X13_finding ⟨rfl, rfl⟩ ⟨Nat.le_of_ble_eq_true rfl, Nat.le_of_ble_eq_true rfl⟩ (fx_recv (g := 0) (i := 0) (ci := 0) (q := (RX13, TX13, 24)) hX hC (min_ (by decide)) rfl rfl) hl.1 rfl (Nat.le_of_ble_eq_true rfl) ⟨Nat.zero_le _, Nat.zero_le _⟩ dX13_cellOf_19 (fun _ H locs hC => ?_)
      refine W.eq (g2 := F0 m 22 ls [.int (-1000001)]) rfl ?_
      have hs : s_cellOf d fd c0 what = (((-1000001), p_find fd 0) : Int32 × Row) := by grind [s_cellOf, in02]
      exact fr_i hx hb hr hlocks hX hC () (congrArg (fun z => some (Value.int z)) (t2_1 hs)) (congrArg (fun z => mct G (mpg d kp as bf sc z tp it ws sz nu mv)) (t2_2 hs)).symm dX13_cellOf_22
set_option maxRecDepth 100000 in
theorem m_X13_mayBeMouse {l : Launch} {G : Gm} {d kp as bf sc fd tp it ws sz nu mv : Row} (what v : Int32) : Cm l yX13_mayBeMouse (ws_ yX13_mayBeMouse cX13_mayBeMouse 3 (some .boolean)) ({ frames := 2, cells := 0, slots := 0, locals := 42 }) (mF G) [.ref (G.ad 0 0), .int what, .int v] (mct G (mpg d kp as bf sc fd tp it ws sz nu mv)) (fun _ : Unit => some (.int (b2i (p_okMouse d what v)))) (fun _ => mct G (mpg d kp as bf sc fd tp it ws sz nu mv)) := by
  refine Cm.start (by decide) (Nat.le_of_ble_eq_true rfl) ?_
  intro p e s m below meth c hf hX hC ls hl
  obtain ⟨hx, hb, hr, hml, hown, hts, hlocks⟩ := hf
  have hl : lv_has ls 3 [(0, .ref (G.ad 0 0)), (1, .int what), (2, .int v)] := hl
  have hown : s.vm.findClass "OwlEarsModel" = some m.cls := hown
  refine lv_iload_n hx hb dX13_mayBeMouse_0 rfl (lv_at hl 1 rfl) ?_
  by_cases c_1 : what = 0
  · refine lv_tableIn (off := 35) (tgt := 36) hx hb dX13_mayBeMouse_1 (by rw [c_1]; decide) (by rw [c_1]; decide) (by rw [c_1]; rfl) (by decide) ?_
    refine lv_iload_n hx hb dX13_mayBeMouse_36 rfl (lv_at hl 2 rfl) ?_
    refine fc_S (As := [.int v]) (rest := []) hx hb hml hown hts hX hC (m_X13_isCell v) (lw_S q1387 q1388 q124 q1389) hdS_X13_isCell ⟨rfl, rfl⟩ ⟨Nat.le_of_ble_eq_true rfl, Nat.le_of_ble_eq_true rfl⟩ hl.1 rfl (Nat.le_of_ble_eq_true rfl) ⟨Nat.zero_le _, Nat.zero_le _⟩ dX13_mayBeMouse_37 (fun _ H locs hC => ?_)
    refine W.eq (g2 := F0 m 40 ls [.int (b2i (p_in v 0 35))]) rfl ?_
    exact fr_z hx hb hr nar_b2i hlocks hX hC () (congrArg (fun z => some (Value.int z)) (b2i_c (by grind [Int32.add_comm]))) rfl dX13_mayBeMouse_40
  by_cases c_3 : what = 1
  · refine lv_tableIn (off := 40) (tgt := 41) hx hb dX13_mayBeMouse_1 (by rw [c_3]; decide) (by rw [c_3]; decide) (by rw [c_3]; rfl) (by decide) ?_
    refine lv_iload_n hx hb dX13_mayBeMouse_41 rfl (lv_at hl 2 rfl) ?_
    refine fc_S (As := [.int v]) (rest := []) hx hb hml hown hts hX hC (m_X13_isHeading v) (lw_S q1437 q1438 q124 q1439) hdS_X13_isHeading ⟨rfl, rfl⟩ ⟨Nat.le_of_ble_eq_true rfl, Nat.le_of_ble_eq_true rfl⟩ hl.1 rfl (Nat.le_of_ble_eq_true rfl) ⟨Nat.zero_le _, Nat.zero_le _⟩ dX13_mayBeMouse_42 (fun _ H locs hC => ?_)
    refine W.eq (g2 := F0 m 45 ls [.int (b2i (p_in v 0 3))]) rfl ?_
    exact fr_z hx hb hr nar_b2i hlocks hX hC () (congrArg (fun z => some (Value.int z)) (b2i_c (by grind [Int32.add_comm]))) rfl dX13_mayBeMouse_45
  by_cases c_5 : what = 2
  · refine lv_tableIn (off := 45) (tgt := 46) hx hb dX13_mayBeMouse_1 (by rw [c_5]; decide) (by rw [c_5]; decide) (by rw [c_5]; rfl) (by decide) ?_
    refine lv_iload_n hx hb dX13_mayBeMouse_46 rfl (lv_at hl 2 rfl) ?_
    refine lv_iconst (v := 1) hx hb dX13_mayBeMouse_47 rfl ?_
    refine lv_bipush (v := 9) hx hb dX13_mayBeMouse_48 rfl ?_
    refine fc_S (As := [.int v, .int 1, .int 9]) (rest := []) hx hb hml hown hts hX hC (m_X13_within v 1 9) (lw_S q1390 q1391 q124 q1392) hdS_X13_within ⟨rfl, rfl⟩ ⟨Nat.le_of_ble_eq_true rfl, Nat.le_of_ble_eq_true rfl⟩ hl.1 rfl (Nat.le_of_ble_eq_true rfl) ⟨Nat.zero_le _, Nat.zero_le _⟩ dX13_mayBeMouse_50 (fun _ H locs hC => ?_)
    refine W.eq (g2 := F0 m 53 ls [.int (b2i (p_in v 1 9))]) rfl ?_
    refine fb_eq (tgt := 79) hx hb dX13_mayBeMouse_53 (by decide) (fun c_7 => ?_) (fun c_7 => ?_)
    · refine lv_iconst (v := 0) hx hb dX13_mayBeMouse_79 rfl ?_
      exact fr_z hx hb hr rfl hlocks hX hC () (congrArg (fun z => some (Value.int z)) (b2i_f (by grind [Int32.add_comm]))) rfl dX13_mayBeMouse_80
    · refine lv_aload_n hx hb dX13_mayBeMouse_56 rfl (lv_at hl 0 rfl) ?_
      refine fg_get (C := RX13) (T := TX13) (N := 24) (ci := 0) (g := 0) (i := 0) (v := .ref (G.ad 0 1)) hx hb hown hts hX hC in_X13 rfl (min_ (by decide)) rfl 0 (by decide) q1310 (fun _ h => h) rfl dX13_mayBeMouse_57 ?_
      refine lv_bipush (v := 7) hx hb dX13_mayBeMouse_60 rfl ?_
      refine fg_iald (g := 0) (i := 1) (t0 := 0) (v := d 7) hx hb hX hC (min_ (by decide)) rfl rfl (vin_b rfl) rfl dX13_mayBeMouse_62 ?_
      refine lv_iload_n hx hb dX13_mayBeMouse_63 rfl (lv_at hl 2 rfl) ?_
      refine lv_aload_n hx hb dX13_mayBeMouse_64 rfl (lv_at hl 0 rfl) ?_
      refine fg_get (C := RX13) (T := TX13) (N := 24) (ci := 0) (g := 0) (i := 0) (v := .ref (G.ad 0 1)) hx hb hown hts hX hC in_X13 rfl (min_ (by decide)) rfl 0 (by decide) q1310 (fun _ h => h) rfl dX13_mayBeMouse_65 ?_
      refine lv_bipush (v := 6) hx hb dX13_mayBeMouse_68 rfl ?_
      refine fg_iald (g := 0) (i := 1) (t0 := 0) (v := d 6) hx hb hX hC (min_ (by decide)) rfl rfl (vin_b rfl) rfl dX13_mayBeMouse_70 ?_
      refine lv_iadd hx hb dX13_mayBeMouse_71 ?_
      refine fj_ge (tgt := 79) hx hb dX13_mayBeMouse_72 (by decide) (fun c_8 => ?_) (fun c_8 => ?_)
      · refine lv_iconst (v := 0) hx hb dX13_mayBeMouse_79 rfl ?_
        exact fr_z hx hb hr rfl hlocks hX hC () (congrArg (fun z => some (Value.int z)) (b2i_f (by grind [Int32.add_comm]))) rfl dX13_mayBeMouse_80
      · refine lv_iconst (v := 1) hx hb dX13_mayBeMouse_75 rfl ?_
        refine lv_goto (tgt := 80) hx hb dX13_mayBeMouse_76 (by decide) ?_
        exact fr_z hx hb hr rfl hlocks hX hC () (congrArg (fun z => some (Value.int z)) (b2i_t (by grind [Int32.add_comm]))) rfl dX13_mayBeMouse_80
  by_cases c_9 : what = 3
  · refine lv_tableIn (off := 80) (tgt := 81) hx hb dX13_mayBeMouse_1 (by rw [c_9]; decide) (by rw [c_9]; decide) (by rw [c_9]; rfl) (by decide) ?_
    refine lv_iload_n hx hb dX13_mayBeMouse_81 rfl (lv_at hl 2 rfl) ?_
    refine lv_iconst (v := 0) hx hb dX13_mayBeMouse_82 rfl ?_
    refine lv_bipush (v := 9) hx hb dX13_mayBeMouse_83 rfl ?_
    refine fc_S (As := [.int v, .int 0, .int 9]) (rest := []) hx hb hml hown hts hX hC (m_X13_within v 0 9) (lw_S q1390 q1391 q124 q1392) hdS_X13_within ⟨rfl, rfl⟩ ⟨Nat.le_of_ble_eq_true rfl, Nat.le_of_ble_eq_true rfl⟩ hl.1 rfl (Nat.le_of_ble_eq_true rfl) ⟨Nat.zero_le _, Nat.zero_le _⟩ dX13_mayBeMouse_85 (fun _ H locs hC => ?_)
    refine W.eq (g2 := F0 m 88 ls [.int (b2i (p_in v 0 9))]) rfl ?_
    refine fb_eq (tgt := 113) hx hb dX13_mayBeMouse_88 (by decide) (fun c_11 => ?_) (fun c_11 => ?_)
    · refine lv_iconst (v := 0) hx hb dX13_mayBeMouse_113 rfl ?_
      exact fr_z hx hb hr rfl hlocks hX hC () (congrArg (fun z => some (Value.int z)) (b2i_f (by grind [Int32.add_comm]))) rfl dX13_mayBeMouse_114
    · refine lv_aload_n hx hb dX13_mayBeMouse_91 rfl (lv_at hl 0 rfl) ?_
      refine fg_get (C := RX13) (T := TX13) (N := 24) (ci := 0) (g := 0) (i := 0) (v := .ref (G.ad 0 1)) hx hb hown hts hX hC in_X13 rfl (min_ (by decide)) rfl 0 (by decide) q1310 (fun _ h => h) rfl dX13_mayBeMouse_92 ?_
      refine lv_bipush (v := 7) hx hb dX13_mayBeMouse_95 rfl ?_
      refine fg_iald (g := 0) (i := 1) (t0 := 0) (v := d 7) hx hb hX hC (min_ (by decide)) rfl rfl (vin_b rfl) rfl dX13_mayBeMouse_97 ?_
      refine lv_aload_n hx hb dX13_mayBeMouse_98 rfl (lv_at hl 0 rfl) ?_
      refine fg_get (C := RX13) (T := TX13) (N := 24) (ci := 0) (g := 0) (i := 0) (v := .ref (G.ad 0 1)) hx hb hown hts hX hC in_X13 rfl (min_ (by decide)) rfl 0 (by decide) q1310 (fun _ h => h) rfl dX13_mayBeMouse_99 ?_
      refine lv_iconst (v := 5) hx hb dX13_mayBeMouse_102 rfl ?_
      refine fg_iald (g := 0) (i := 1) (t0 := 0) (v := d 5) hx hb hX hC (min_ (by decide)) rfl rfl (vin_b rfl) rfl dX13_mayBeMouse_103 ?_
      refine lv_iload_n hx hb dX13_mayBeMouse_104 rfl (lv_at hl 2 rfl) ?_
      refine lv_iadd hx hb dX13_mayBeMouse_105 ?_
      refine fj_ge (tgt := 113) hx hb dX13_mayBeMouse_106 (by decide) (fun c_12 => ?_) (fun c_12 => ?_)
      · refine lv_iconst (v := 0) hx hb dX13_mayBeMouse_113 rfl ?_
        exact fr_z hx hb hr rfl hlocks hX hC () (congrArg (fun z => some (Value.int z)) (b2i_f (by grind [Int32.add_comm]))) rfl dX13_mayBeMouse_114
      · refine lv_iconst (v := 1) hx hb dX13_mayBeMouse_109 rfl ?_
        refine lv_goto (tgt := 114) hx hb dX13_mayBeMouse_110 (by decide) ?_
        exact fr_z hx hb hr rfl hlocks hX hC () (congrArg (fun z => some (Value.int z)) (b2i_t (by grind [Int32.add_comm]))) rfl dX13_mayBeMouse_114
  by_cases c_13 : what = 4
  · refine lv_tableIn (off := 114) (tgt := 115) hx hb dX13_mayBeMouse_1 (by rw [c_13]; decide) (by rw [c_13]; decide) (by rw [c_13]; rfl) (by decide) ?_
    refine lv_iload_n hx hb dX13_mayBeMouse_115 rfl (lv_at hl 2 rfl) ?_
    refine lv_iconst (v := 0) hx hb dX13_mayBeMouse_116 rfl ?_
    refine lv_aload_n hx hb dX13_mayBeMouse_117 rfl (lv_at hl 0 rfl) ?_
    refine fg_get (C := RX13) (T := TX13) (N := 24) (ci := 0) (g := 0) (i := 0) (v := .ref (G.ad 0 1)) hx hb hown hts hX hC in_X13 rfl (min_ (by decide)) rfl 0 (by decide) q1310 (fun _ h => h) rfl dX13_mayBeMouse_118 ?_
    refine lv_iconst (v := 5) hx hb dX13_mayBeMouse_121 rfl ?_
    refine fg_iald (g := 0) (i := 1) (t0 := 0) (v := d 5) hx hb hX hC (min_ (by decide)) rfl rfl (vin_b rfl) rfl dX13_mayBeMouse_122 ?_
    refine lv_aload_n hx hb dX13_mayBeMouse_123 rfl (lv_at hl 0 rfl) ?_
    refine fg_get (C := RX13) (T := TX13) (N := 24) (ci := 0) (g := 0) (i := 0) (v := .ref (G.ad 0 1)) hx hb hown hts hX hC in_X13 rfl (min_ (by decide)) rfl 0 (by decide) q1310 (fun _ h => h) rfl dX13_mayBeMouse_124 ?_
    refine lv_bipush (v := 6) hx hb dX13_mayBeMouse_127 rfl ?_
    refine fg_iald (g := 0) (i := 1) (t0 := 0) (v := d 6) hx hb hX hC (min_ (by decide)) rfl rfl (vin_b rfl) rfl dX13_mayBeMouse_129 ?_
    refine lv_iadd hx hb dX13_mayBeMouse_130 ?_
    refine lv_iconst (v := 1) hx hb dX13_mayBeMouse_131 rfl ?_
    refine lv_isub hx hb dX13_mayBeMouse_132 ?_
    refine fc_S (As := [.int v, .int 0, .int (((d 5) + (d 6)) - 1)]) (rest := []) hx hb hml hown hts hX hC (m_X13_within v 0 (((d 5) + (d 6)) - 1)) (lw_S q1390 q1391 q124 q1392) hdS_X13_within ⟨rfl, rfl⟩ ⟨Nat.le_of_ble_eq_true rfl, Nat.le_of_ble_eq_true rfl⟩ hl.1 rfl (Nat.le_of_ble_eq_true rfl) ⟨Nat.zero_le _, Nat.zero_le _⟩ dX13_mayBeMouse_133 (fun _ H locs hC => ?_)
    refine W.eq (g2 := F0 m 136 ls [.int (b2i (p_in v 0 (((d 5) + (d 6)) - 1)))]) rfl ?_
    exact fr_z hx hb hr nar_b2i hlocks hX hC () (congrArg (fun z => some (Value.int z)) (b2i_c (by grind [Int32.add_comm]))) rfl dX13_mayBeMouse_136
  refine lv_tableOut (tgt := 137) hx hb dX13_mayBeMouse_1 (tabo 0 5 (by decide) (fun k hk => match k, hk with | 0, _ => c_1 | 1, _ => c_3 | 2, _ => c_5 | 3, _ => c_9 | 4, _ => c_13) rfl) (by decide) ?_
  refine lv_iconst (v := 0) hx hb dX13_mayBeMouse_137 rfl ?_
  exact fr_z hx hb hr rfl hlocks hX hC () (congrArg (fun z => some (Value.int z)) (b2i_f (by grind [Int32.add_comm]))) rfl dX13_mayBeMouse_138
set_option maxRecDepth 100000 in
theorem m_X13_mouse {l : Launch} {G : Gm} {d kp as bf sc fd tp it ws sz nu mv : Row} (what v : Int32) : Cm l yX13_mouse (ws_ yX13_mouse cX13_mouse 3 (some .int)) ({ frames := 3, cells := 0, slots := 0, locals := 64 }) (mF G) [.ref (G.ad 0 0), .int what, .int v] (mct G (mpg d kp as bf sc fd tp it ws sz nu mv)) (fun _ : Unit => some (.int ((s_mouse d fd what v).1))) (fun _ => mct G (mpg ((s_mouse d fd what v).2.1) kp as bf sc ((s_mouse d fd what v).2.2) tp it ws sz nu mv)) := by
  refine Cm.start (by decide) (Nat.le_of_ble_eq_true rfl) ?_
  intro p e s m below meth c hf hX hC ls hl
  obtain ⟨hx, hb, hr, hml, hown, hts, hlocks⟩ := hf
  have hl : lv_has ls 3 [(0, .ref (G.ad 0 0)), (1, .int what), (2, .int v)] := hl
  have hown : s.vm.findClass "OwlEarsModel" = some m.cls := hown
  refine lv_aload_n hx hb dX13_mouse_0 rfl (lv_at hl 0 rfl) ?_
  refine lv_iload_n hx hb dX13_mouse_1 rfl (lv_at hl 1 rfl) ?_
  refine lv_iload_n hx hb dX13_mouse_2 rfl (lv_at hl 2 rfl) ?_
  refine fc_V (As := [.int what, .int v]) (rest := []) hx hb hml hown hts hX hC (m_X13_mayBeMouse what v) (lw_V q1433 q1435 qs60 q124 q1436) hdV_X13_mayBeMouse ⟨rfl, rfl⟩ ⟨Nat.le_of_ble_eq_true rfl, Nat.le_of_ble_eq_true rfl⟩ (fx_recv (g := 0) (i := 0) (ci := 0) (q := (RX13, TX13, 24)) hX hC (min_ (by decide)) rfl rfl) hl.1 rfl (Nat.le_of_ble_eq_true rfl) ⟨Nat.zero_le _, Nat.zero_le _⟩ dX13_mouse_3 (fun _ H locs hC => ?_)
  refine W.eq (g2 := F0 m 6 ls [.int (b2i (p_okMouse d what v))]) rfl ?_
  refine fb_eq (tgt := 20) hx hb dX13_mouse_6 (by decide) (fun c_2 => ?_) (fun c_2 => ?_)
  · refine lv_aload_n hx hb dX13_mouse_20 rfl (lv_at hl 0 rfl) ?_
    refine lv_ldc (v := (-1000001)) hx hb hown (hts _ q1403) dX13_mouse_21 ?_
    refine fc_V (As := [.int (-1000001)]) (rest := []) hx hb hml hown hts hX hC (m_X13_finding 0 (vin_b rfl)) (lw_V q1404 q1406 qs56 q124 q1407) hdV_X13_finding ⟨rfl, rfl⟩ ⟨Nat.le_of_ble_eq_true rfl, Nat.le_of_ble_eq_true rfl⟩ (fx_recv (g := 0) (i := 0) (ci := 0) (q := (RX13, TX13, 24)) hX hC (min_ (by decide)) rfl rfl) hl.1 rfl (Nat.le_of_ble_eq_true rfl) ⟨Nat.zero_le _, Nat.zero_le _⟩ dX13_mouse_23 (fun _ H locs hC => ?_)
    refine W.eq (g2 := F0 m 26 ls [.int (-1000001)]) rfl ?_
    have hs : s_mouse d fd what v = (((-1000001), d, p_find fd 0) : Int32 × Row × Row) := by first | grind [s_mouse] | rfl
    exact fr_i hx hb hr hlocks hX hC () (congrArg (fun z => some (Value.int z)) (t3_1 hs)) ((congrArg (fun z => mct G (mpg z kp as bf sc ((s_mouse d fd what v).2.2) tp it ws sz nu mv)) (t3_2 hs)).trans (congrArg (fun z => mct G (mpg d kp as bf sc z tp it ws sz nu mv)) (t3_3 hs))).symm dX13_mouse_26
  · refine lv_aload_n hx hb dX13_mouse_9 rfl (lv_at hl 0 rfl) ?_
    refine lv_iconst (v := 3) hx hb dX13_mouse_10 rfl ?_
    refine lv_iload_n hx hb dX13_mouse_11 rfl (lv_at hl 1 rfl) ?_
    refine lv_iadd hx hb dX13_mouse_12 ?_
    refine lv_iload_n hx hb dX13_mouse_13 rfl (lv_at hl 2 rfl) ?_
    refine fc_V (As := [.int (3 + what), .int v]) (rest := []) hx hb hml hown hts hX hC (m_X13_become (3 + what) v (3 + ix what) (ixp 3 (okMouse_in c_2) (by decide)) (vinp 3 (okMouse_in c_2) (by decide) (by decide))) (lw_V q1399 q1401 qs55 q124 q1402) hdV_X13_become ⟨rfl, rfl⟩ ⟨Nat.le_of_ble_eq_true rfl, Nat.le_of_ble_eq_true rfl⟩ (fx_recv (g := 0) (i := 0) (ci := 0) (q := (RX13, TX13, 24)) hX hC (min_ (by decide)) rfl rfl) hl.1 rfl (Nat.le_of_ble_eq_true rfl) ⟨Nat.zero_le _, Nat.zero_le _⟩ dX13_mouse_14 (fun _ H locs hC => ?_)
    refine W.eq (g2 := F0 m 17 ls [.int (d (3 + ix what))]) rfl ?_
    refine lv_goto (tgt := 26) hx hb dX13_mouse_17 (by decide) ?_
    have hs : s_mouse d fd what v = ((d (3 + ix what), upd d (3 + ix what) v, fd) : Int32 × Row × Row) := by first | grind [s_mouse] | rfl
    exact fr_i hx hb hr hlocks hX hC () (congrArg (fun z => some (Value.int z)) (t3_1 hs)) ((congrArg (fun z => mct G (mpg z kp as bf sc ((s_mouse d fd what v).2.2) tp it ws sz nu mv)) (t3_2 hs)).trans (congrArg (fun z => mct G (mpg (upd d (3 + ix what) v) kp as bf sc z tp it ws sz nu mv)) (t3_3 hs))).symm dX13_mouse_26
set_option maxRecDepth 100000 in
theorem m_X13_owl {l : Launch} {G : Gm} {d kp as bf sc fd tp it ws sz nu mv : Row} (what v : Int32) : Cm l yX13_owl (ws_ yX13_owl cX13_owl 4 (some .int)) ({ frames := 2, cells := 0, slots := 0, locals := 42 }) (mF G) [.ref (G.ad 0 0), .int what, .int v] (mct G (mpg d kp as bf sc fd tp it ws sz nu mv)) (fun _ : Unit => some (.int ((s_owl d fd what v).1))) (fun _ => mct G (mpg ((s_owl d fd what v).2.1) kp as bf sc ((s_owl d fd what v).2.2) tp it ws sz nu mv)) := by
  refine Cm.start (by decide) (Nat.le_of_ble_eq_true rfl) ?_
  intro p e s m below meth c hf hX hC ls hl
  obtain ⟨hx, hb, hr, hml, hown, hts, hlocks⟩ := hf
  have hl : lv_has ls 4 [(0, .ref (G.ad 0 0)), (1, .int what), (2, .int v)] := hl
  have hown : s.vm.findClass "OwlEarsModel" = some m.cls := hown
  refine lv_iload_n hx hb dX13_owl_0 rfl (lv_at hl 1 rfl) ?_
  refine lv_if_ne (tgt := 11) hx hb dX13_owl_1 (by decide) (fun c_1 => ?_) (fun c_1 => ?_)
  · refine lv_iload_n hx hb dX13_owl_11 rfl (lv_at hl 1 rfl) ?_
    refine lv_iconst (v := 1) hx hb dX13_owl_12 rfl ?_
    refine lv_icmp_ne (tgt := 27) hx hb dX13_owl_13 (by decide) (fun c_2 => ?_) (fun c_2 => ?_)
    · refine lv_iconst (v := 0) hx hb dX13_owl_27 rfl ?_
      refine lv_istore_n (lv' := [(3, .int 0), (0, .ref (G.ad 0 0)), (1, .int what), (2, .int v)]) hx hb dX13_owl_28 rfl hl (by decide) rfl (fun ls hl => ?_)
      refine lv_iload_n hx hb dX13_owl_29 rfl (lv_at hl 0 rfl) ?_
      refine lv_if_eq (tgt := 45) hx hb dX13_owl_30 (by decide) (fun _ => ?_) (fun z_3 => absurd (by decide) z_3)
      refine lv_aload_n hx hb dX13_owl_45 rfl (lv_at hl 1 rfl) ?_
      refine lv_ldc (v := (-1000001)) hx hb hown (hts _ q1403) dX13_owl_46 ?_
      refine fc_V (As := [.int (-1000001)]) (rest := []) hx hb hml hown hts hX hC (m_X13_finding 0 (vin_b rfl)) (lw_V q1404 q1406 qs56 q124 q1407) hdV_X13_finding ⟨rfl, rfl⟩ ⟨Nat.le_of_ble_eq_true rfl, Nat.le_of_ble_eq_true rfl⟩ (fx_recv (g := 0) (i := 0) (ci := 0) (q := (RX13, TX13, 24)) hX hC (min_ (by decide)) rfl rfl) hl.1 rfl (Nat.le_of_ble_eq_true rfl) ⟨Nat.zero_le _, Nat.zero_le _⟩ dX13_owl_48 (fun _ H locs hC => ?_)
      refine W.eq (g2 := F0 m 51 ls [.int (-1000001)]) rfl ?_
      have hs : s_owl d fd what v = (((-1000001), d, p_find fd 0) : Int32 × Row × Row) := by grind [s_owl]
      exact fr_i hx hb hr hlocks hX hC () (congrArg (fun z => some (Value.int z)) (t3_1 hs)) ((congrArg (fun z => mct G (mpg z kp as bf sc ((s_owl d fd what v).2.2) tp it ws sz nu mv)) (t3_2 hs)).trans (congrArg (fun z => mct G (mpg d kp as bf sc z tp it ws sz nu mv)) (t3_3 hs))).symm dX13_owl_51
    · refine lv_iload_n hx hb dX13_owl_16 rfl (lv_at hl 2 rfl) ?_
      refine fc_S (As := [.int v]) (rest := []) hx hb hml hown hts hX hC (m_X13_isHeading v) (lw_S q1437 q1438 q124 q1439) hdS_X13_isHeading ⟨rfl, rfl⟩ ⟨Nat.le_of_ble_eq_true rfl, Nat.le_of_ble_eq_true rfl⟩ hl.1 rfl (Nat.le_of_ble_eq_true rfl) ⟨Nat.zero_le _, Nat.zero_le _⟩ dX13_owl_17 (fun _ H locs hC => ?_)
      refine W.eq (g2 := F0 m 20 ls [.int (b2i (p_in v 0 3))]) rfl ?_
      refine fb_eq (tgt := 27) hx hb dX13_owl_20 (by decide) (fun c_5 => ?_) (fun c_5 => ?_)
      · refine lv_iconst (v := 0) hx hb dX13_owl_27 rfl ?_
        refine lv_istore_n (lv' := [(3, .int 0), (0, .ref (G.ad 0 0)), (1, .int what), (2, .int v)]) hx hb dX13_owl_28 rfl hl (by decide) rfl (fun ls hl => ?_)
        refine lv_iload_n hx hb dX13_owl_29 rfl (lv_at hl 0 rfl) ?_
        refine lv_if_eq (tgt := 45) hx hb dX13_owl_30 (by decide) (fun _ => ?_) (fun z_6 => absurd (by decide) z_6)
        refine lv_aload_n hx hb dX13_owl_45 rfl (lv_at hl 1 rfl) ?_
        refine lv_ldc (v := (-1000001)) hx hb hown (hts _ q1403) dX13_owl_46 ?_
        refine fc_V (As := [.int (-1000001)]) (rest := []) hx hb hml hown hts hX hC (m_X13_finding 0 (vin_b rfl)) (lw_V q1404 q1406 qs56 q124 q1407) hdV_X13_finding ⟨rfl, rfl⟩ ⟨Nat.le_of_ble_eq_true rfl, Nat.le_of_ble_eq_true rfl⟩ (fx_recv (g := 0) (i := 0) (ci := 0) (q := (RX13, TX13, 24)) hX hC (min_ (by decide)) rfl rfl) hl.1 rfl (Nat.le_of_ble_eq_true rfl) ⟨Nat.zero_le _, Nat.zero_le _⟩ dX13_owl_48 (fun _ H locs hC => ?_)
        refine W.eq (g2 := F0 m 51 ls [.int (-1000001)]) rfl ?_
        have hs : s_owl d fd what v = (((-1000001), d, p_find fd 0) : Int32 × Row × Row) := by grind [s_owl]
        exact fr_i hx hb hr hlocks hX hC () (congrArg (fun z => some (Value.int z)) (t3_1 hs)) ((congrArg (fun z => mct G (mpg z kp as bf sc ((s_owl d fd what v).2.2) tp it ws sz nu mv)) (t3_2 hs)).trans (congrArg (fun z => mct G (mpg d kp as bf sc z tp it ws sz nu mv)) (t3_3 hs))).symm dX13_owl_51
      · refine lv_iconst (v := 1) hx hb dX13_owl_23 rfl ?_
        refine lv_goto (tgt := 28) hx hb dX13_owl_24 (by decide) ?_
        refine lv_istore_n (lv' := [(3, .int 1), (0, .ref (G.ad 0 0)), (1, .int what), (2, .int v)]) hx hb dX13_owl_28 rfl hl (by decide) rfl (fun ls hl => ?_)
        refine lv_iload_n hx hb dX13_owl_29 rfl (lv_at hl 0 rfl) ?_
        refine lv_if_eq (tgt := 45) hx hb dX13_owl_30 (by decide) (fun z_7 => absurd z_7 (by decide)) (fun _ => ?_)
        refine lv_aload_n hx hb dX13_owl_33 rfl (lv_at hl 1 rfl) ?_
        refine lv_bipush (v := 8) hx hb dX13_owl_34 rfl ?_
        refine lv_iload_n hx hb dX13_owl_36 rfl (lv_at hl 2 rfl) ?_
        refine lv_iadd hx hb dX13_owl_37 ?_
        refine lv_iload_n hx hb dX13_owl_38 rfl (lv_at hl 3 rfl) ?_
        refine fc_V (As := [.int (8 + what), .int v]) (rest := []) hx hb hml hown hts hX hC (m_X13_become (8 + what) v (8 + ix what) (ixp 8 (show vp_in what 2 by rw [c_2]; exact vin_b rfl) (by decide)) (vinp 8 (show vp_in what 2 by rw [c_2]; exact vin_b rfl) (by decide) (by decide))) (lw_V q1399 q1401 qs55 q124 q1402) hdV_X13_become ⟨rfl, rfl⟩ ⟨Nat.le_of_ble_eq_true rfl, Nat.le_of_ble_eq_true rfl⟩ (fx_recv (g := 0) (i := 0) (ci := 0) (q := (RX13, TX13, 24)) hX hC (min_ (by decide)) rfl rfl) hl.1 rfl (Nat.le_of_ble_eq_true rfl) ⟨Nat.zero_le _, Nat.zero_le _⟩ dX13_owl_39 (fun _ H locs hC => ?_)
        refine W.eq (g2 := F0 m 42 ls [.int (d (8 + ix what))]) rfl ?_
        refine lv_goto (tgt := 51) hx hb dX13_owl_42 (by decide) ?_
        have hs : s_owl d fd what v = ((d (8 + ix what), upd d (8 + ix what) v, fd) : Int32 × Row × Row) := by grind [s_owl]
        exact fr_i hx hb hr hlocks hX hC () (congrArg (fun z => some (Value.int z)) (t3_1 hs)) ((congrArg (fun z => mct G (mpg z kp as bf sc ((s_owl d fd what v).2.2) tp it ws sz nu mv)) (t3_2 hs)).trans (congrArg (fun z => mct G (mpg (upd d (8 + ix what) v) kp as bf sc z tp it ws sz nu mv)) (t3_3 hs))).symm dX13_owl_51
  · refine lv_iload_n hx hb dX13_owl_4 rfl (lv_at hl 2 rfl) ?_
    refine fc_S (As := [.int v]) (rest := []) hx hb hml hown hts hX hC (m_X13_isCell v) (lw_S q1387 q1388 q124 q1389) hdS_X13_isCell ⟨rfl, rfl⟩ ⟨Nat.le_of_ble_eq_true rfl, Nat.le_of_ble_eq_true rfl⟩ hl.1 rfl (Nat.le_of_ble_eq_true rfl) ⟨Nat.zero_le _, Nat.zero_le _⟩ dX13_owl_5 (fun _ H locs hC => ?_)
    refine W.eq (g2 := F0 m 8 ls [.int (b2i (p_in v 0 35))]) rfl ?_
    refine lv_goto (tgt := 28) hx hb dX13_owl_8 (by decide) ?_
    refine lv_istore_n (lv' := [(3, .int (b2i (p_in v 0 35))), (0, .ref (G.ad 0 0)), (1, .int what), (2, .int v)]) hx hb dX13_owl_28 rfl hl (by decide) rfl (fun ls hl => ?_)
    refine lv_iload_n hx hb dX13_owl_29 rfl (lv_at hl 0 rfl) ?_
    refine fb_eq (tgt := 45) hx hb dX13_owl_30 (by decide) (fun c_9 => ?_) (fun c_9 => ?_)
    · refine lv_aload_n hx hb dX13_owl_45 rfl (lv_at hl 1 rfl) ?_
      refine lv_ldc (v := (-1000001)) hx hb hown (hts _ q1403) dX13_owl_46 ?_
      refine fc_V (As := [.int (-1000001)]) (rest := []) hx hb hml hown hts hX hC (m_X13_finding 0 (vin_b rfl)) (lw_V q1404 q1406 qs56 q124 q1407) hdV_X13_finding ⟨rfl, rfl⟩ ⟨Nat.le_of_ble_eq_true rfl, Nat.le_of_ble_eq_true rfl⟩ (fx_recv (g := 0) (i := 0) (ci := 0) (q := (RX13, TX13, 24)) hX hC (min_ (by decide)) rfl rfl) hl.1 rfl (Nat.le_of_ble_eq_true rfl) ⟨Nat.zero_le _, Nat.zero_le _⟩ dX13_owl_48 (fun _ H locs hC => ?_)
      refine W.eq (g2 := F0 m 51 ls [.int (-1000001)]) rfl ?_
      have hs : s_owl d fd what v = (((-1000001), d, p_find fd 0) : Int32 × Row × Row) := by grind [s_owl]
      exact fr_i hx hb hr hlocks hX hC () (congrArg (fun z => some (Value.int z)) (t3_1 hs)) ((congrArg (fun z => mct G (mpg z kp as bf sc ((s_owl d fd what v).2.2) tp it ws sz nu mv)) (t3_2 hs)).trans (congrArg (fun z => mct G (mpg d kp as bf sc z tp it ws sz nu mv)) (t3_3 hs))).symm dX13_owl_51
    · refine lv_aload_n hx hb dX13_owl_33 rfl (lv_at hl 1 rfl) ?_
      refine lv_bipush (v := 8) hx hb dX13_owl_34 rfl ?_
      refine lv_iload_n hx hb dX13_owl_36 rfl (lv_at hl 2 rfl) ?_
      refine lv_iadd hx hb dX13_owl_37 ?_
      refine lv_iload_n hx hb dX13_owl_38 rfl (lv_at hl 3 rfl) ?_
      refine fc_V (As := [.int (8 + what), .int v]) (rest := []) hx hb hml hown hts hX hC (m_X13_become (8 + what) v (8 + ix what) (ixp 8 (show vp_in what 1 by rw [c_1]; exact vin_b rfl) (by decide)) (vinp 8 (show vp_in what 1 by rw [c_1]; exact vin_b rfl) (by decide) (by decide))) (lw_V q1399 q1401 qs55 q124 q1402) hdV_X13_become ⟨rfl, rfl⟩ ⟨Nat.le_of_ble_eq_true rfl, Nat.le_of_ble_eq_true rfl⟩ (fx_recv (g := 0) (i := 0) (ci := 0) (q := (RX13, TX13, 24)) hX hC (min_ (by decide)) rfl rfl) hl.1 rfl (Nat.le_of_ble_eq_true rfl) ⟨Nat.zero_le _, Nat.zero_le _⟩ dX13_owl_39 (fun _ H locs hC => ?_)
      refine W.eq (g2 := F0 m 42 ls [.int (d (8 + ix what))]) rfl ?_
      refine lv_goto (tgt := 51) hx hb dX13_owl_42 (by decide) ?_
      have hs : s_owl d fd what v = ((d (8 + ix what), upd d (8 + ix what) v, fd) : Int32 × Row × Row) := by grind [s_owl]
      exact fr_i hx hb hr hlocks hX hC () (congrArg (fun z => some (Value.int z)) (t3_1 hs)) ((congrArg (fun z => mct G (mpg z kp as bf sc ((s_owl d fd what v).2.2) tp it ws sz nu mv)) (t3_2 hs)).trans (congrArg (fun z => mct G (mpg (upd d (8 + ix what) v) kp as bf sc z tp it ws sz nu mv)) (t3_3 hs))).symm dX13_owl_51
set_option maxRecDepth 100000 in
theorem m_X13_told {l : Launch} {G : Gm} {d kp as bf sc fd tp it ws sz nu mv : Row} (hw : WF d) (what : Int32) : Cm l yX13_told (ws_ yX13_told cX13_told 2 (some .int)) ({ frames := 2, cells := 0, slots := 0, locals := 40 }) (mF G) [.ref (G.ad 0 0), .int what] (mct G (mpg d kp as bf sc fd tp it ws sz nu mv)) (fun _ : Unit => some (.int ((s_told d fd what).1))) (fun _ => mct G (mpg d kp as bf sc ((s_told d fd what).2) tp it ws sz nu mv)) := by
  refine Cm.start (by decide) (Nat.le_of_ble_eq_true rfl) ?_
  intro p e s m below meth c hf hX hC ls hl
  obtain ⟨hx, hb, hr, hml, hown, hts, hlocks⟩ := hf
  have hl : lv_has ls 2 [(0, .ref (G.ad 0 0)), (1, .int what)] := hl
  have hown : s.vm.findClass "OwlEarsModel" = some m.cls := hown
  refine lv_iload_n hx hb dX13_told_0 rfl (lv_at hl 1 rfl) ?_
  refine lv_iconst (v := 0) hx hb dX13_told_1 rfl ?_
  refine lv_iconst (v := 4) hx hb dX13_told_2 rfl ?_
  refine fc_S (As := [.int what, .int 0, .int 4]) (rest := []) hx hb hml hown hts hX hC (m_X13_within what 0 4) (lw_S q1390 q1391 q124 q1392) hdS_X13_within ⟨rfl, rfl⟩ ⟨Nat.le_of_ble_eq_true rfl, Nat.le_of_ble_eq_true rfl⟩ hl.1 rfl (Nat.le_of_ble_eq_true rfl) ⟨Nat.zero_le _, Nat.zero_le _⟩ dX13_told_3 (fun _ H locs hC => ?_)
  refine W.eq (g2 := F0 m 6 ls [.int (b2i (p_in what 0 4))]) rfl ?_
  refine fb_eq (tgt := 18) hx hb dX13_told_6 (by decide) (fun c_2 => ?_) (fun c_2 => ?_)
  · refine lv_iload_n hx hb dX13_told_18 rfl (lv_at hl 1 rfl) ?_
    by_cases c_3 : what = 5
    · refine lv_tableIn (off := 41) (tgt := 60) hx hb dX13_told_19 (by rw [c_3]; decide) (by rw [c_3]; decide) (by rw [c_3]; rfl) (by decide) ?_
      refine lv_aload_n hx hb dX13_told_60 rfl (lv_at hl 0 rfl) ?_
      refine fc_V (As := []) (rest := []) hx hb hml hown hts hX hC (m_X13_isRunning) (lw_V q1420 q1422 qs59 q124 q1423) hdV_X13_isRunning ⟨rfl, rfl⟩ ⟨Nat.le_of_ble_eq_true rfl, Nat.le_of_ble_eq_true rfl⟩ (fx_recv (g := 0) (i := 0) (ci := 0) (q := (RX13, TX13, 24)) hX hC (min_ (by decide)) rfl rfl) hl.1 rfl (Nat.le_of_ble_eq_true rfl) ⟨Nat.zero_le _, Nat.zero_le _⟩ dX13_told_61 (fun _ H locs hC => ?_)
      refine W.eq (g2 := F0 m 64 ls [.int (b2i (p_run d))]) rfl ?_
      refine fb_eq (tgt := 71) hx hb dX13_told_64 (by decide) (fun c_5 => ?_) (fun c_5 => ?_)
      · refine lv_iconst (v := 0) hx hb dX13_told_71 rfl ?_
        have hs : s_told d fd what = ((0, fd) : Int32 × Row) := by first | grind [s_told, b2i] | rfl
        exact fr_i hx hb hr hlocks hX hC () (congrArg (fun z => some (Value.int z)) (t2_1 hs)) (congrArg (fun z => mct G (mpg d kp as bf sc z tp it ws sz nu mv)) (t2_2 hs)).symm dX13_told_72
      · refine lv_iconst (v := 1) hx hb dX13_told_67 rfl ?_
        refine lv_goto (tgt := 72) hx hb dX13_told_68 (by decide) ?_
        have hs : s_told d fd what = ((1, fd) : Int32 × Row) := by first | grind [s_told, b2i] | rfl
        exact fr_i hx hb hr hlocks hX hC () (congrArg (fun z => some (Value.int z)) (t2_1 hs)) (congrArg (fun z => mct G (mpg d kp as bf sc z tp it ws sz nu mv)) (t2_2 hs)).symm dX13_told_72
    by_cases c_6 : what = 6
    · refine lv_tableIn (off := 54) (tgt := 73) hx hb dX13_told_19 (by rw [c_6]; decide) (by rw [c_6]; decide) (by rw [c_6]; rfl) (by decide) ?_
      refine lv_aload_n hx hb dX13_told_73 rfl (lv_at hl 0 rfl) ?_
      refine fc_V (As := []) (rest := []) hx hb hml hown hts hX hC (m_X13_loud hw) (lw_V q1416 q1418 qs58 q124 q1419) hdV_X13_loud ⟨rfl, rfl⟩ ⟨Nat.le_of_ble_eq_true rfl, Nat.le_of_ble_eq_true rfl⟩ (fx_recv (g := 0) (i := 0) (ci := 0) (q := (RX13, TX13, 24)) hX hC (min_ (by decide)) rfl rfl) hl.1 rfl (Nat.le_of_ble_eq_true rfl) ⟨Nat.zero_le _, Nat.zero_le _⟩ dX13_told_74 (fun _ H locs hC => ?_)
      refine W.eq (g2 := F0 m 77 ls [.int (p_loud d)]) rfl ?_
      have hs : s_told d fd what = ((p_loud d, fd) : Int32 × Row) := by first | grind [s_told, b2i] | rfl
      exact fr_i hx hb hr hlocks hX hC () (congrArg (fun z => some (Value.int z)) (t2_1 hs)) (congrArg (fun z => mct G (mpg d kp as bf sc z tp it ws sz nu mv)) (t2_2 hs)).symm dX13_told_77
    by_cases c_8 : what = 7
    · refine lv_tableIn (off := 75) (tgt := 94) hx hb dX13_told_19 (by rw [c_8]; decide) (by rw [c_8]; decide) (by rw [c_8]; rfl) (by decide) ?_
      refine lv_aload_n hx hb dX13_told_94 rfl (lv_at hl 0 rfl) ?_
      refine lv_ldc (v := (-1000001)) hx hb hown (hts _ q1403) dX13_told_95 ?_
      refine fc_V (As := [.int (-1000001)]) (rest := []) hx hb hml hown hts hX hC (m_X13_finding 0 (vin_b rfl)) (lw_V q1404 q1406 qs56 q124 q1407) hdV_X13_finding ⟨rfl, rfl⟩ ⟨Nat.le_of_ble_eq_true rfl, Nat.le_of_ble_eq_true rfl⟩ (fx_recv (g := 0) (i := 0) (ci := 0) (q := (RX13, TX13, 24)) hX hC (min_ (by decide)) rfl rfl) hl.1 rfl (Nat.le_of_ble_eq_true rfl) ⟨Nat.zero_le _, Nat.zero_le _⟩ dX13_told_97 (fun _ H locs hC => ?_)
      refine W.eq (g2 := F0 m 100 ls [.int (-1000001)]) rfl ?_
      have hs : s_told d fd what = (((-1000001), p_find fd 0) : Int32 × Row) := by first | grind [s_told, b2i] | rfl
      exact fr_i hx hb hr hlocks hX hC () (congrArg (fun z => some (Value.int z)) (t2_1 hs)) (congrArg (fun z => mct G (mpg d kp as bf sc z tp it ws sz nu mv)) (t2_2 hs)).symm dX13_told_100
    by_cases c_9 : what = 8
    · refine lv_tableIn (off := 75) (tgt := 94) hx hb dX13_told_19 (by rw [c_9]; decide) (by rw [c_9]; decide) (by rw [c_9]; rfl) (by decide) ?_
      refine lv_aload_n hx hb dX13_told_94 rfl (lv_at hl 0 rfl) ?_
      refine lv_ldc (v := (-1000001)) hx hb hown (hts _ q1403) dX13_told_95 ?_
      refine fc_V (As := [.int (-1000001)]) (rest := []) hx hb hml hown hts hX hC (m_X13_finding 0 (vin_b rfl)) (lw_V q1404 q1406 qs56 q124 q1407) hdV_X13_finding ⟨rfl, rfl⟩ ⟨Nat.le_of_ble_eq_true rfl, Nat.le_of_ble_eq_true rfl⟩ (fx_recv (g := 0) (i := 0) (ci := 0) (q := (RX13, TX13, 24)) hX hC (min_ (by decide)) rfl rfl) hl.1 rfl (Nat.le_of_ble_eq_true rfl) ⟨Nat.zero_le _, Nat.zero_le _⟩ dX13_told_97 (fun _ H locs hC => ?_)
      refine W.eq (g2 := F0 m 100 ls [.int (-1000001)]) rfl ?_
      have hs : s_told d fd what = (((-1000001), p_find fd 0) : Int32 × Row) := by first | grind [s_told, b2i] | rfl
      exact fr_i hx hb hr hlocks hX hC () (congrArg (fun z => some (Value.int z)) (t2_1 hs)) (congrArg (fun z => mct G (mpg d kp as bf sc z tp it ws sz nu mv)) (t2_2 hs)).symm dX13_told_100
    by_cases c_10 : what = 9
    · refine lv_tableIn (off := 75) (tgt := 94) hx hb dX13_told_19 (by rw [c_10]; decide) (by rw [c_10]; decide) (by rw [c_10]; rfl) (by decide) ?_
      refine lv_aload_n hx hb dX13_told_94 rfl (lv_at hl 0 rfl) ?_
      refine lv_ldc (v := (-1000001)) hx hb hown (hts _ q1403) dX13_told_95 ?_
      refine fc_V (As := [.int (-1000001)]) (rest := []) hx hb hml hown hts hX hC (m_X13_finding 0 (vin_b rfl)) (lw_V q1404 q1406 qs56 q124 q1407) hdV_X13_finding ⟨rfl, rfl⟩ ⟨Nat.le_of_ble_eq_true rfl, Nat.le_of_ble_eq_true rfl⟩ (fx_recv (g := 0) (i := 0) (ci := 0) (q := (RX13, TX13, 24)) hX hC (min_ (by decide)) rfl rfl) hl.1 rfl (Nat.le_of_ble_eq_true rfl) ⟨Nat.zero_le _, Nat.zero_le _⟩ dX13_told_97 (fun _ H locs hC => ?_)
      refine W.eq (g2 := F0 m 100 ls [.int (-1000001)]) rfl ?_
      have hs : s_told d fd what = (((-1000001), p_find fd 0) : Int32 × Row) := by first | grind [s_told, b2i] | rfl
      exact fr_i hx hb hr hlocks hX hC () (congrArg (fun z => some (Value.int z)) (t2_1 hs)) (congrArg (fun z => mct G (mpg d kp as bf sc z tp it ws sz nu mv)) (t2_2 hs)).symm dX13_told_100
    by_cases c_11 : what = 10
    · refine lv_tableIn (off := 59) (tgt := 78) hx hb dX13_told_19 (by rw [c_11]; decide) (by rw [c_11]; decide) (by rw [c_11]; rfl) (by decide) ?_
      refine lv_aload_n hx hb dX13_told_78 rfl (lv_at hl 0 rfl) ?_
      refine fg_get (C := RX13) (T := TX13) (N := 24) (ci := 0) (g := 0) (i := 0) (v := .ref (G.ad 0 1)) hx hb hown hts hX hC in_X13 rfl (min_ (by decide)) rfl 0 (by decide) q1310 (fun _ h => h) rfl dX13_told_79 ?_
      refine lv_bipush (v := 8) hx hb dX13_told_82 rfl ?_
      refine fg_iald (g := 0) (i := 1) (t0 := 0) (v := d 8) hx hb hX hC (min_ (by decide)) rfl rfl (vin_b rfl) rfl dX13_told_84 ?_
      have hs : s_told d fd what = ((d 8, fd) : Int32 × Row) := by first | grind [s_told, b2i] | rfl
      exact fr_i hx hb hr hlocks hX hC () (congrArg (fun z => some (Value.int z)) (t2_1 hs)) (congrArg (fun z => mct G (mpg d kp as bf sc z tp it ws sz nu mv)) (t2_2 hs)).symm dX13_told_85
    by_cases c_12 : what = 11
    · refine lv_tableIn (off := 67) (tgt := 86) hx hb dX13_told_19 (by rw [c_12]; decide) (by rw [c_12]; decide) (by rw [c_12]; rfl) (by decide) ?_
      refine lv_aload_n hx hb dX13_told_86 rfl (lv_at hl 0 rfl) ?_
      refine fg_get (C := RX13) (T := TX13) (N := 24) (ci := 0) (g := 0) (i := 0) (v := .ref (G.ad 0 1)) hx hb hown hts hX hC in_X13 rfl (min_ (by decide)) rfl 0 (by decide) q1310 (fun _ h => h) rfl dX13_told_87 ?_
      refine lv_bipush (v := 9) hx hb dX13_told_90 rfl ?_
      refine fg_iald (g := 0) (i := 1) (t0 := 0) (v := d 9) hx hb hX hC (min_ (by decide)) rfl rfl (vin_b rfl) rfl dX13_told_92 ?_
      have hs : s_told d fd what = ((d 9, fd) : Int32 × Row) := by first | grind [s_told, b2i] | rfl
      exact fr_i hx hb hr hlocks hX hC () (congrArg (fun z => some (Value.int z)) (t2_1 hs)) (congrArg (fun z => mct G (mpg d kp as bf sc z tp it ws sz nu mv)) (t2_2 hs)).symm dX13_told_93
    refine lv_tableOut (tgt := 94) hx hb dX13_told_19 (tabo 5 7 (by decide) (fun k hk => match k, hk with | 0, _ => c_3 | 1, _ => c_6 | 2, _ => c_8 | 3, _ => c_9 | 4, _ => c_10 | 5, _ => c_11 | 6, _ => c_12) rfl) (by decide) ?_
    refine lv_aload_n hx hb dX13_told_94 rfl (lv_at hl 0 rfl) ?_
    refine lv_ldc (v := (-1000001)) hx hb hown (hts _ q1403) dX13_told_95 ?_
    refine fc_V (As := [.int (-1000001)]) (rest := []) hx hb hml hown hts hX hC (m_X13_finding 0 (vin_b rfl)) (lw_V q1404 q1406 qs56 q124 q1407) hdV_X13_finding ⟨rfl, rfl⟩ ⟨Nat.le_of_ble_eq_true rfl, Nat.le_of_ble_eq_true rfl⟩ (fx_recv (g := 0) (i := 0) (ci := 0) (q := (RX13, TX13, 24)) hX hC (min_ (by decide)) rfl rfl) hl.1 rfl (Nat.le_of_ble_eq_true rfl) ⟨Nat.zero_le _, Nat.zero_le _⟩ dX13_told_97 (fun _ H locs hC => ?_)
    refine W.eq (g2 := F0 m 100 ls [.int (-1000001)]) rfl ?_
    have hs : s_told d fd what = (((-1000001), p_find fd 0) : Int32 × Row) := by first | grind [s_told, b2i] | rfl
    exact fr_i hx hb hr hlocks hX hC () (congrArg (fun z => some (Value.int z)) (t2_1 hs)) (congrArg (fun z => mct G (mpg d kp as bf sc z tp it ws sz nu mv)) (t2_2 hs)).symm dX13_told_100
  · refine lv_aload_n hx hb dX13_told_9 rfl (lv_at hl 0 rfl) ?_
    refine fg_get (C := RX13) (T := TX13) (N := 24) (ci := 0) (g := 0) (i := 0) (v := .ref (G.ad 0 1)) hx hb hown hts hX hC in_X13 rfl (min_ (by decide)) rfl 0 (by decide) q1310 (fun _ h => h) rfl dX13_told_10 ?_
    refine lv_iconst (v := 3) hx hb dX13_told_13 rfl ?_
    refine lv_iload_n hx hb dX13_told_14 rfl (lv_at hl 1 rfl) ?_
    refine lv_iadd hx hb dX13_told_15 ?_
    refine fg_iald (g := 0) (i := 1) (t0 := 0) (v := d (3 + ix what)) hx hb hX hC (min_ (by decide)) rfl rfl (vinp 3 (vin_of c_2 5 (by decide)) (by decide) (by decide)) (congrArg d (ixp 3 (vin_of c_2 5 (by decide)) (by decide))) dX13_told_16 ?_
    have hs : s_told d fd what = ((d (3 + ix what), fd) : Int32 × Row) := by first | grind [s_told, b2i] | rfl
    exact fr_i hx hb hr hlocks hX hC () (congrArg (fun z => some (Value.int z)) (t2_1 hs)) (congrArg (fun z => mct G (mpg d kp as bf sc z tp it ws sz nu mv)) (t2_2 hs)).symm dX13_told_17
set_option maxRecDepth 100000 in
theorem m_X13_strike {l : Launch} {G : Gm} {d kp as bf sc fd tp it ws sz nu mv : Row} (hw : WF d) (kind aim : Int32) : Cm l yX13_strike (ws_ yX13_strike cX13_strike 3 (some .int)) ({ frames := 2, cells := 0, slots := 0, locals := 45 }) (mF G) [.ref (G.ad 0 0), .int kind, .int aim] (mct G (mpg d kp as bf sc fd tp it ws sz nu mv)) (fun _ : Unit => some (.int ((s_strike d fd kind aim).1))) (fun _ => mct G (mpg ((s_strike d fd kind aim).2.1) kp as bf sc ((s_strike d fd kind aim).2.2) tp it ws sz nu mv)) := by
  refine Cm.start (by decide) (Nat.le_of_ble_eq_true rfl) ?_
  intro p e s m below meth c hf hX hC ls hl
  obtain ⟨hx, hb, hr, hml, hown, hts, hlocks⟩ := hf
  have hl : lv_has ls 3 [(0, .ref (G.ad 0 0)), (1, .int kind), (2, .int aim)] := hl
  have hown : s.vm.findClass "OwlEarsModel" = some m.cls := hown
  refine lv_iload_n hx hb dX13_strike_0 rfl (lv_at hl 1 rfl) ?_
  refine fc_S (As := [.int kind]) (rest := []) hx hb hml hown hts hX hC (m_X13_isKind kind) (lw_S q1452 q1453 q124 q1454) hdS_X13_isKind ⟨rfl, rfl⟩ ⟨Nat.le_of_ble_eq_true rfl, Nat.le_of_ble_eq_true rfl⟩ hl.1 rfl (Nat.le_of_ble_eq_true rfl) ⟨Nat.zero_le _, Nat.zero_le _⟩ dX13_strike_1 (fun _ H locs hC => ?_)
  refine W.eq (g2 := F0 m 4 ls [.int (b2i (p_in kind 0 6))]) rfl ?_
  refine fb_eq (tgt := 14) hx hb dX13_strike_4 (by decide) (fun c_2 => ?_) (fun c_2 => ?_)
  · refine lv_aload_n hx hb dX13_strike_14 rfl (lv_at hl 0 rfl) ?_
    refine lv_ldc (v := (-1000001)) hx hb hown (hts _ q1403) dX13_strike_15 ?_
    refine fc_V (As := [.int (-1000001)]) (rest := []) hx hb hml hown hts hX hC (m_X13_finding 0 (vin_b rfl)) (lw_V q1404 q1406 qs56 q124 q1407) hdV_X13_finding ⟨rfl, rfl⟩ ⟨Nat.le_of_ble_eq_true rfl, Nat.le_of_ble_eq_true rfl⟩ (fx_recv (g := 0) (i := 0) (ci := 0) (q := (RX13, TX13, 24)) hX hC (min_ (by decide)) rfl rfl) hl.1 rfl (Nat.le_of_ble_eq_true rfl) ⟨Nat.zero_le _, Nat.zero_le _⟩ dX13_strike_17 (fun _ H locs hC => ?_)
    refine W.eq (g2 := F0 m 20 ls [.int (-1000001)]) rfl ?_
    have hs : s_strike d fd kind aim = (((-1000001), d, p_find fd 0) : Int32 × Row × Row) := by first | grind [s_strike, p_add, p_comes] | rfl
    exact fr_i hx hb hr hlocks hX hC () (congrArg (fun z => some (Value.int z)) (t3_1 hs)) ((congrArg (fun z => mct G (mpg z kp as bf sc ((s_strike d fd kind aim).2.2) tp it ws sz nu mv)) (t3_2 hs)).trans (congrArg (fun z => mct G (mpg d kp as bf sc z tp it ws sz nu mv)) (t3_3 hs))).symm dX13_strike_20
  · refine lv_iload_n hx hb dX13_strike_7 rfl (lv_at hl 2 rfl) ?_
    refine fc_S (As := [.int aim]) (rest := []) hx hb hml hown hts hX hC (m_X13_isCell aim) (lw_S q1387 q1388 q124 q1389) hdS_X13_isCell ⟨rfl, rfl⟩ ⟨Nat.le_of_ble_eq_true rfl, Nat.le_of_ble_eq_true rfl⟩ hl.1 rfl (Nat.le_of_ble_eq_true rfl) ⟨Nat.zero_le _, Nat.zero_le _⟩ dX13_strike_8 (fun _ H locs hC => ?_)
    refine W.eq (g2 := F0 m 11 ls [.int (b2i (p_in aim 0 35))]) rfl ?_
    refine fb_ne (tgt := 21) hx hb dX13_strike_11 (by decide) (fun c_4 => ?_) (fun c_4 => ?_)
    · refine lv_aload_n hx hb dX13_strike_21 rfl (lv_at hl 0 rfl) ?_
      refine fg_get (C := RX13) (T := TX13) (N := 24) (ci := 0) (g := 0) (i := 0) (v := .ref (G.ad 0 1)) hx hb hown hts hX hC in_X13 rfl (min_ (by decide)) rfl 0 (by decide) q1310 (fun _ h => h) rfl dX13_strike_22 ?_
      refine lv_iconst (v := 1) hx hb dX13_strike_25 rfl ?_
      refine fg_iald (g := 0) (i := 1) (t0 := 0) (v := d 1) hx hb hX hC (min_ (by decide)) rfl rfl (vin_b rfl) rfl dX13_strike_26 ?_
      refine lv_bipush (v := 8) hx hb dX13_strike_27 rfl ?_
      refine lv_icmp_ne (tgt := 41) hx hb dX13_strike_29 (by decide) (fun c_5 => ?_) (fun c_5 => ?_)
      · refine lv_aload_n hx hb dX13_strike_41 rfl (lv_at hl 0 rfl) ?_
        refine lv_iload_n hx hb dX13_strike_42 rfl (lv_at hl 1 rfl) ?_
        refine lv_iload_n hx hb dX13_strike_43 rfl (lv_at hl 2 rfl) ?_
        refine lv_iconst (v := 0) hx hb dX13_strike_44 rfl ?_
        refine fc_V (As := [.int kind, .int aim, .int 0]) (rest := []) hx hb hml hown hts hX hC (m_X13_comes hw kind aim 0 (many_lt hw c_5)) (lw_V q1456 q1458 qs61 q124 q1459) hdV_X13_comes ⟨rfl, rfl⟩ ⟨Nat.le_of_ble_eq_true rfl, Nat.le_of_ble_eq_true rfl⟩ (fx_recv (g := 0) (i := 0) (ci := 0) (q := (RX13, TX13, 24)) hX hC (min_ (by decide)) rfl rfl) hl.1 rfl (Nat.le_of_ble_eq_true rfl) ⟨Nat.zero_le _, Nat.zero_le _⟩ dX13_strike_45 (fun _ H locs hC => ?_)
        refine W.eq (g2 := F0 m 48 ls [.int (d 1)]) rfl ?_
        have hs : s_strike d fd kind aim = ((d 1, p_comes d kind aim 0, fd) : Int32 × Row × Row) := by first | grind [s_strike, p_add, p_comes] | rfl
        exact fr_i hx hb hr hlocks hX hC () (congrArg (fun z => some (Value.int z)) (t3_1 hs)) ((congrArg (fun z => mct G (mpg z kp as bf sc ((s_strike d fd kind aim).2.2) tp it ws sz nu mv)) (t3_2 hs)).trans (congrArg (fun z => mct G (mpg (p_comes d kind aim 0) kp as bf sc z tp it ws sz nu mv)) (t3_3 hs))).symm dX13_strike_48
      · refine lv_aload_n hx hb dX13_strike_32 rfl (lv_at hl 0 rfl) ?_
        refine lv_ldc (v := (-1000002)) hx hb hown (hts _ q1455) dX13_strike_33 ?_
        refine fc_V (As := [.int (-1000002)]) (rest := []) hx hb hml hown hts hX hC (m_X13_finding 1 (vin_b rfl)) (lw_V q1404 q1406 qs56 q124 q1407) hdV_X13_finding ⟨rfl, rfl⟩ ⟨Nat.le_of_ble_eq_true rfl, Nat.le_of_ble_eq_true rfl⟩ (fx_recv (g := 0) (i := 0) (ci := 0) (q := (RX13, TX13, 24)) hX hC (min_ (by decide)) rfl rfl) hl.1 rfl (Nat.le_of_ble_eq_true rfl) ⟨Nat.zero_le _, Nat.zero_le _⟩ dX13_strike_35 (fun _ H locs hC => ?_)
        refine W.eq (g2 := F0 m 38 ls [.int (-1000002)]) rfl ?_
        refine lv_goto (tgt := 48) hx hb dX13_strike_38 (by decide) ?_
        have hs : s_strike d fd kind aim = (((-1000002), d, p_find fd 1) : Int32 × Row × Row) := by first | grind [s_strike, p_add, p_comes] | rfl
        exact fr_i hx hb hr hlocks hX hC () (congrArg (fun z => some (Value.int z)) (t3_1 hs)) ((congrArg (fun z => mct G (mpg z kp as bf sc ((s_strike d fd kind aim).2.2) tp it ws sz nu mv)) (t3_2 hs)).trans (congrArg (fun z => mct G (mpg d kp as bf sc z tp it ws sz nu mv)) (t3_3 hs))).symm dX13_strike_48
    · refine lv_aload_n hx hb dX13_strike_14 rfl (lv_at hl 0 rfl) ?_
      refine lv_ldc (v := (-1000001)) hx hb hown (hts _ q1403) dX13_strike_15 ?_
      refine fc_V (As := [.int (-1000001)]) (rest := []) hx hb hml hown hts hX hC (m_X13_finding 0 (vin_b rfl)) (lw_V q1404 q1406 qs56 q124 q1407) hdV_X13_finding ⟨rfl, rfl⟩ ⟨Nat.le_of_ble_eq_true rfl, Nat.le_of_ble_eq_true rfl⟩ (fx_recv (g := 0) (i := 0) (ci := 0) (q := (RX13, TX13, 24)) hX hC (min_ (by decide)) rfl rfl) hl.1 rfl (Nat.le_of_ble_eq_true rfl) ⟨Nat.zero_le _, Nat.zero_le _⟩ dX13_strike_17 (fun _ H locs hC => ?_)
      refine W.eq (g2 := F0 m 20 ls [.int (-1000001)]) rfl ?_
      have hs : s_strike d fd kind aim = (((-1000001), d, p_find fd 0) : Int32 × Row × Row) := by first | grind [s_strike, p_add, p_comes] | rfl
      exact fr_i hx hb hr hlocks hX hC () (congrArg (fun z => some (Value.int z)) (t3_1 hs)) ((congrArg (fun z => mct G (mpg z kp as bf sc ((s_strike d fd kind aim).2.2) tp it ws sz nu mv)) (t3_2 hs)).trans (congrArg (fun z => mct G (mpg d kp as bf sc z tp it ws sz nu mv)) (t3_3 hs))).symm dX13_strike_20
set_option maxRecDepth 100000 in
theorem m_X13_change {l : Launch} {G : Gm} {d kp as bf sc fd tp it ws sz nu mv : Row} (hw : WF d) (k what v : Int32) : Cm l yX13_change (ws_ yX13_change cX13_change 4 (some .int)) ({ frames := 3, cells := 0, slots := 0, locals := 63 }) (mF G) [.ref (G.ad 0 0), .int k, .int what, .int v] (mct G (mpg d kp as bf sc fd tp it ws sz nu mv)) (fun _ : Unit => some (.int ((s_change d fd k what v).1))) (fun _ => mct G (mpg ((s_change d fd k what v).2.1) kp as bf sc ((s_change d fd k what v).2.2) tp it ws sz nu mv)) := by
  refine Cm.start (by decide) (Nat.le_of_ble_eq_true rfl) ?_
  intro p e s m below meth c hf hX hC ls hl
  obtain ⟨hx, hb, hr, hml, hown, hts, hlocks⟩ := hf
  have hl : lv_has ls 4 [(0, .ref (G.ad 0 0)), (1, .int k), (2, .int what), (3, .int v)] := hl
  have hown : s.vm.findClass "OwlEarsModel" = some m.cls := hown
  refine lv_aload_n hx hb dX13_change_0 rfl (lv_at hl 0 rfl) ?_
  refine lv_iload_n hx hb dX13_change_1 rfl (lv_at hl 1 rfl) ?_
  refine fc_V (As := [.int k]) (rest := []) hx hb hml hown hts hX hC (m_X13_isStrike k) (lw_V q1467 q1469 qs62 q124 q1470) hdV_X13_isStrike ⟨rfl, rfl⟩ ⟨Nat.le_of_ble_eq_true rfl, Nat.le_of_ble_eq_true rfl⟩ (fx_recv (g := 0) (i := 0) (ci := 0) (q := (RX13, TX13, 24)) hX hC (min_ (by decide)) rfl rfl) hl.1 rfl (Nat.le_of_ble_eq_true rfl) ⟨Nat.zero_le _, Nat.zero_le _⟩ dX13_change_2 (fun _ H locs hC => ?_)
  refine W.eq (g2 := F0 m 5 ls [.int (b2i (p_in k 0 (d 1 - 1)))]) rfl ?_
  refine fb_eq (tgt := 29) hx hb dX13_change_5 (by decide) (fun c_2 => ?_) (fun c_2 => ?_)
  · refine lv_aload_n hx hb dX13_change_29 rfl (lv_at hl 0 rfl) ?_
    refine lv_ldc (v := (-1000001)) hx hb hown (hts _ q1403) dX13_change_30 ?_
    refine fc_V (As := [.int (-1000001)]) (rest := []) hx hb hml hown hts hX hC (m_X13_finding 0 (vin_b rfl)) (lw_V q1404 q1406 qs56 q124 q1407) hdV_X13_finding ⟨rfl, rfl⟩ ⟨Nat.le_of_ble_eq_true rfl, Nat.le_of_ble_eq_true rfl⟩ (fx_recv (g := 0) (i := 0) (ci := 0) (q := (RX13, TX13, 24)) hX hC (min_ (by decide)) rfl rfl) hl.1 rfl (Nat.le_of_ble_eq_true rfl) ⟨Nat.zero_le _, Nat.zero_le _⟩ dX13_change_32 (fun _ H locs hC => ?_)
    refine W.eq (g2 := F0 m 35 ls [.int (-1000001)]) rfl ?_
    have hs : s_change d fd k what v = (((-1000001), d, p_find fd 0) : Int32 × Row × Row) := by first | grind [s_change, ix_0, ix_1, ix_2, ix_3] | rfl
    exact fr_i hx hb hr hlocks hX hC () (congrArg (fun z => some (Value.int z)) (t3_1 hs)) ((congrArg (fun z => mct G (mpg z kp as bf sc ((s_change d fd k what v).2.2) tp it ws sz nu mv)) (t3_2 hs)).trans (congrArg (fun z => mct G (mpg d kp as bf sc z tp it ws sz nu mv)) (t3_3 hs))).symm dX13_change_35
  · refine lv_iload_n hx hb dX13_change_8 rfl (lv_at hl 2 rfl) ?_
    refine lv_iload_n hx hb dX13_change_9 rfl (lv_at hl 3 rfl) ?_
    refine fc_S (As := [.int what, .int v]) (rest := []) hx hb hml hown hts hX hC (m_X13_mayBe what v) (lw_S q1513 q1514 q124 q1515) hdS_X13_mayBe ⟨rfl, rfl⟩ ⟨Nat.le_of_ble_eq_true rfl, Nat.le_of_ble_eq_true rfl⟩ hl.1 rfl (Nat.le_of_ble_eq_true rfl) ⟨Nat.zero_le _, Nat.zero_le _⟩ dX13_change_10 (fun _ H locs hC => ?_)
    refine W.eq (g2 := F0 m 13 ls [.int (b2i (p_okTold what v))]) rfl ?_
    refine fb_eq (tgt := 29) hx hb dX13_change_13 (by decide) (fun c_4 => ?_) (fun c_4 => ?_)
    · refine lv_aload_n hx hb dX13_change_29 rfl (lv_at hl 0 rfl) ?_
      refine lv_ldc (v := (-1000001)) hx hb hown (hts _ q1403) dX13_change_30 ?_
      refine fc_V (As := [.int (-1000001)]) (rest := []) hx hb hml hown hts hX hC (m_X13_finding 0 (vin_b rfl)) (lw_V q1404 q1406 qs56 q124 q1407) hdV_X13_finding ⟨rfl, rfl⟩ ⟨Nat.le_of_ble_eq_true rfl, Nat.le_of_ble_eq_true rfl⟩ (fx_recv (g := 0) (i := 0) (ci := 0) (q := (RX13, TX13, 24)) hX hC (min_ (by decide)) rfl rfl) hl.1 rfl (Nat.le_of_ble_eq_true rfl) ⟨Nat.zero_le _, Nat.zero_le _⟩ dX13_change_32 (fun _ H locs hC => ?_)
      refine W.eq (g2 := F0 m 35 ls [.int (-1000001)]) rfl ?_
      have hs : s_change d fd k what v = (((-1000001), d, p_find fd 0) : Int32 × Row × Row) := by first | grind [s_change, ix_0, ix_1, ix_2, ix_3] | rfl
      exact fr_i hx hb hr hlocks hX hC () (congrArg (fun z => some (Value.int z)) (t3_1 hs)) ((congrArg (fun z => mct G (mpg z kp as bf sc ((s_change d fd k what v).2.2) tp it ws sz nu mv)) (t3_2 hs)).trans (congrArg (fun z => mct G (mpg d kp as bf sc z tp it ws sz nu mv)) (t3_3 hs))).symm dX13_change_35
    · rcases okTold_cases c_4 with qq | qq | qq | qq
      · subst qq
        refine lv_aload_n hx hb dX13_change_16 rfl (lv_at hl 0 rfl) ?_
        refine lv_iload_n hx hb dX13_change_17 rfl (lv_at hl 1 rfl) ?_
        refine lv_iload_n hx hb dX13_change_18 rfl (lv_at hl 2 rfl) ?_
        refine fc_S (As := [.int k, .int 0]) (rest := [.ref (G.ad 0 0)]) hx hb hml hown hts hX hC (m_X13_place k 0) (lw_S q1460 q1461 q124 q1462) hdS_X13_place ⟨rfl, rfl⟩ ⟨Nat.le_of_ble_eq_true rfl, Nat.le_of_ble_eq_true rfl⟩ hl.1 rfl (Nat.le_of_ble_eq_true rfl) ⟨Nat.zero_le _, Nat.zero_le _⟩ dX13_change_19 (fun _ H locs hC => ?_)
        refine W.eq (g2 := F0 m 22 ls [.int (92 + 4 * k + 0), .ref (G.ad 0 0)]) rfl ?_
        refine lv_iload_n hx hb dX13_change_22 rfl (lv_at hl 3 rfl) ?_
        refine fc_V (As := [.int (92 + 4 * k + 0), .int v]) (rest := []) hx hb hml hown hts hX hC (m_X13_become (92 + 4 * k + 0) v (92 + 4 * ix k) (ixpl 0 (kin_of hw c_2) (by decide)) (vinpl 0 (kin_of hw c_2) (by decide))) (lw_V q1399 q1401 qs55 q124 q1402) hdV_X13_become ⟨rfl, rfl⟩ ⟨Nat.le_of_ble_eq_true rfl, Nat.le_of_ble_eq_true rfl⟩ (fx_recv (g := 0) (i := 0) (ci := 0) (q := (RX13, TX13, 24)) hX hC (min_ (by decide)) rfl rfl) hl.1 rfl (Nat.le_of_ble_eq_true rfl) ⟨Nat.zero_le _, Nat.zero_le _⟩ dX13_change_23 (fun _ H locs hC => ?_)
        refine W.eq (g2 := F0 m 26 ls [.int (d (92 + 4 * ix k))]) rfl ?_
        refine lv_goto (tgt := 35) hx hb dX13_change_26 (by decide) ?_
        have hs : s_change d fd k 0 v = ((d (92 + 4 * ix k), upd d (92 + 4 * ix k) v, fd) : Int32 × Row × Row) := by first | grind [s_change, ix_0, ix_1, ix_2, ix_3] | rfl
        exact fr_i hx hb hr hlocks hX hC () (congrArg (fun z => some (Value.int z)) (t3_1 hs)) ((congrArg (fun z => mct G (mpg z kp as bf sc ((s_change d fd k 0 v).2.2) tp it ws sz nu mv)) (t3_2 hs)).trans (congrArg (fun z => mct G (mpg (upd d (92 + 4 * ix k) v) kp as bf sc z tp it ws sz nu mv)) (t3_3 hs))).symm dX13_change_35
      · subst qq
        refine lv_aload_n hx hb dX13_change_16 rfl (lv_at hl 0 rfl) ?_
        refine lv_iload_n hx hb dX13_change_17 rfl (lv_at hl 1 rfl) ?_
        refine lv_iload_n hx hb dX13_change_18 rfl (lv_at hl 2 rfl) ?_
        refine fc_S (As := [.int k, .int 1]) (rest := [.ref (G.ad 0 0)]) hx hb hml hown hts hX hC (m_X13_place k 1) (lw_S q1460 q1461 q124 q1462) hdS_X13_place ⟨rfl, rfl⟩ ⟨Nat.le_of_ble_eq_true rfl, Nat.le_of_ble_eq_true rfl⟩ hl.1 rfl (Nat.le_of_ble_eq_true rfl) ⟨Nat.zero_le _, Nat.zero_le _⟩ dX13_change_19 (fun _ H locs hC => ?_)
        refine W.eq (g2 := F0 m 22 ls [.int (92 + 4 * k + 1), .ref (G.ad 0 0)]) rfl ?_
        refine lv_iload_n hx hb dX13_change_22 rfl (lv_at hl 3 rfl) ?_
        refine fc_V (As := [.int (92 + 4 * k + 1), .int v]) (rest := []) hx hb hml hown hts hX hC (m_X13_become (92 + 4 * k + 1) v (93 + 4 * ix k) (ixpl 1 (kin_of hw c_2) (by decide)) (vinpl 1 (kin_of hw c_2) (by decide))) (lw_V q1399 q1401 qs55 q124 q1402) hdV_X13_become ⟨rfl, rfl⟩ ⟨Nat.le_of_ble_eq_true rfl, Nat.le_of_ble_eq_true rfl⟩ (fx_recv (g := 0) (i := 0) (ci := 0) (q := (RX13, TX13, 24)) hX hC (min_ (by decide)) rfl rfl) hl.1 rfl (Nat.le_of_ble_eq_true rfl) ⟨Nat.zero_le _, Nat.zero_le _⟩ dX13_change_23 (fun _ H locs hC => ?_)
        refine W.eq (g2 := F0 m 26 ls [.int (d (93 + 4 * ix k))]) rfl ?_
        refine lv_goto (tgt := 35) hx hb dX13_change_26 (by decide) ?_
        have hs : s_change d fd k 1 v = ((d (93 + 4 * ix k), upd d (93 + 4 * ix k) v, fd) : Int32 × Row × Row) := by first | grind [s_change, ix_0, ix_1, ix_2, ix_3] | rfl
        exact fr_i hx hb hr hlocks hX hC () (congrArg (fun z => some (Value.int z)) (t3_1 hs)) ((congrArg (fun z => mct G (mpg z kp as bf sc ((s_change d fd k 1 v).2.2) tp it ws sz nu mv)) (t3_2 hs)).trans (congrArg (fun z => mct G (mpg (upd d (93 + 4 * ix k) v) kp as bf sc z tp it ws sz nu mv)) (t3_3 hs))).symm dX13_change_35
      · subst qq
        refine lv_aload_n hx hb dX13_change_16 rfl (lv_at hl 0 rfl) ?_
        refine lv_iload_n hx hb dX13_change_17 rfl (lv_at hl 1 rfl) ?_
        refine lv_iload_n hx hb dX13_change_18 rfl (lv_at hl 2 rfl) ?_
        refine fc_S (As := [.int k, .int 2]) (rest := [.ref (G.ad 0 0)]) hx hb hml hown hts hX hC (m_X13_place k 2) (lw_S q1460 q1461 q124 q1462) hdS_X13_place ⟨rfl, rfl⟩ ⟨Nat.le_of_ble_eq_true rfl, Nat.le_of_ble_eq_true rfl⟩ hl.1 rfl (Nat.le_of_ble_eq_true rfl) ⟨Nat.zero_le _, Nat.zero_le _⟩ dX13_change_19 (fun _ H locs hC => ?_)
        refine W.eq (g2 := F0 m 22 ls [.int (92 + 4 * k + 2), .ref (G.ad 0 0)]) rfl ?_
        refine lv_iload_n hx hb dX13_change_22 rfl (lv_at hl 3 rfl) ?_
        refine fc_V (As := [.int (92 + 4 * k + 2), .int v]) (rest := []) hx hb hml hown hts hX hC (m_X13_become (92 + 4 * k + 2) v (94 + 4 * ix k) (ixpl 2 (kin_of hw c_2) (by decide)) (vinpl 2 (kin_of hw c_2) (by decide))) (lw_V q1399 q1401 qs55 q124 q1402) hdV_X13_become ⟨rfl, rfl⟩ ⟨Nat.le_of_ble_eq_true rfl, Nat.le_of_ble_eq_true rfl⟩ (fx_recv (g := 0) (i := 0) (ci := 0) (q := (RX13, TX13, 24)) hX hC (min_ (by decide)) rfl rfl) hl.1 rfl (Nat.le_of_ble_eq_true rfl) ⟨Nat.zero_le _, Nat.zero_le _⟩ dX13_change_23 (fun _ H locs hC => ?_)
        refine W.eq (g2 := F0 m 26 ls [.int (d (94 + 4 * ix k))]) rfl ?_
        refine lv_goto (tgt := 35) hx hb dX13_change_26 (by decide) ?_
        have hs : s_change d fd k 2 v = ((d (94 + 4 * ix k), upd d (94 + 4 * ix k) v, fd) : Int32 × Row × Row) := by first | grind [s_change, ix_0, ix_1, ix_2, ix_3] | rfl
        exact fr_i hx hb hr hlocks hX hC () (congrArg (fun z => some (Value.int z)) (t3_1 hs)) ((congrArg (fun z => mct G (mpg z kp as bf sc ((s_change d fd k 2 v).2.2) tp it ws sz nu mv)) (t3_2 hs)).trans (congrArg (fun z => mct G (mpg (upd d (94 + 4 * ix k) v) kp as bf sc z tp it ws sz nu mv)) (t3_3 hs))).symm dX13_change_35
      · subst qq
        refine lv_aload_n hx hb dX13_change_16 rfl (lv_at hl 0 rfl) ?_
        refine lv_iload_n hx hb dX13_change_17 rfl (lv_at hl 1 rfl) ?_
        refine lv_iload_n hx hb dX13_change_18 rfl (lv_at hl 2 rfl) ?_
        refine fc_S (As := [.int k, .int 3]) (rest := [.ref (G.ad 0 0)]) hx hb hml hown hts hX hC (m_X13_place k 3) (lw_S q1460 q1461 q124 q1462) hdS_X13_place ⟨rfl, rfl⟩ ⟨Nat.le_of_ble_eq_true rfl, Nat.le_of_ble_eq_true rfl⟩ hl.1 rfl (Nat.le_of_ble_eq_true rfl) ⟨Nat.zero_le _, Nat.zero_le _⟩ dX13_change_19 (fun _ H locs hC => ?_)
        refine W.eq (g2 := F0 m 22 ls [.int (92 + 4 * k + 3), .ref (G.ad 0 0)]) rfl ?_
        refine lv_iload_n hx hb dX13_change_22 rfl (lv_at hl 3 rfl) ?_
        refine fc_V (As := [.int (92 + 4 * k + 3), .int v]) (rest := []) hx hb hml hown hts hX hC (m_X13_become (92 + 4 * k + 3) v (95 + 4 * ix k) (ixpl 3 (kin_of hw c_2) (by decide)) (vinpl 3 (kin_of hw c_2) (by decide))) (lw_V q1399 q1401 qs55 q124 q1402) hdV_X13_become ⟨rfl, rfl⟩ ⟨Nat.le_of_ble_eq_true rfl, Nat.le_of_ble_eq_true rfl⟩ (fx_recv (g := 0) (i := 0) (ci := 0) (q := (RX13, TX13, 24)) hX hC (min_ (by decide)) rfl rfl) hl.1 rfl (Nat.le_of_ble_eq_true rfl) ⟨Nat.zero_le _, Nat.zero_le _⟩ dX13_change_23 (fun _ H locs hC => ?_)
        refine W.eq (g2 := F0 m 26 ls [.int (d (95 + 4 * ix k))]) rfl ?_
        refine lv_goto (tgt := 35) hx hb dX13_change_26 (by decide) ?_
        have hs : s_change d fd k 3 v = ((d (95 + 4 * ix k), upd d (95 + 4 * ix k) v, fd) : Int32 × Row × Row) := by first | grind [s_change, ix_0, ix_1, ix_2, ix_3] | rfl
        exact fr_i hx hb hr hlocks hX hC () (congrArg (fun z => some (Value.int z)) (t3_1 hs)) ((congrArg (fun z => mct G (mpg z kp as bf sc ((s_change d fd k 3 v).2.2) tp it ws sz nu mv)) (t3_2 hs)).trans (congrArg (fun z => mct G (mpg (upd d (95 + 4 * ix k) v) kp as bf sc z tp it ws sz nu mv)) (t3_3 hs))).symm dX13_change_35
set_option maxRecDepth 100000 in
theorem m_X13_strikesNow {l : Launch} {G : Gm} {d kp as bf sc fd tp it ws sz nu mv : Row} (hw : WF d) (k : Int32) (hk : vp_in k 8) : Cm l yX13_strikesNow (ws_ yX13_strikesNow cX13_strikesNow 2 (some .int)) ({ frames := 4, cells := 0, slots := 0, locals := 86 }) (mF G) [.ref (G.ad 0 0), .int k] (mct G (mpg d kp as bf sc fd tp it ws sz nu mv)) (fun _ : Unit => some (.int ((s_made d k).1))) (fun _ => mct G (mpg ((s_made d k).2) kp as bf sc fd tp it ws sz nu mv)) := by
  refine Cm.start (by decide) (Nat.le_of_ble_eq_true rfl) ?_
  intro p e s m below meth c hf hX hC ls hl
  obtain ⟨hx, hb, hr, hml, hown, hts, hlocks⟩ := hf
  have hl : lv_has ls 2 [(0, .ref (G.ad 0 0)), (1, .int k)] := hl
  have hown : s.vm.findClass "OwlEarsModel" = some m.cls := hown
  refine lv_aload_n hx hb dX13_strikesNow_0 rfl (lv_at hl 0 rfl) ?_
  refine lv_aload_n hx hb dX13_strikesNow_1 rfl (lv_at hl 0 rfl) ?_
  refine lv_iload_n hx hb dX13_strikesNow_2 rfl (lv_at hl 1 rfl) ?_
  refine fc_V (As := [.int k]) (rest := [.ref (G.ad 0 0)]) hx hb hml hown hts hX hC (m_X13_takes k hk) (lw_V q1471 q1473 qs63 q124 q1474) hdV_X13_takes ⟨rfl, rfl⟩ ⟨Nat.le_of_ble_eq_true rfl, Nat.le_of_ble_eq_true rfl⟩ (fx_recv (g := 0) (i := 0) (ci := 0) (q := (RX13, TX13, 24)) hX hC (min_ (by decide)) rfl rfl) hl.1 rfl (Nat.le_of_ble_eq_true rfl) ⟨Nat.zero_le _, Nat.zero_le _⟩ dX13_strikesNow_3 (fun _ H locs hC => ?_)
  refine W.eq (g2 := F0 m 6 ls [.int (p_takes d k), .ref (G.ad 0 0)]) rfl ?_
  refine fc_V (As := [.int (p_takes d k)]) (rest := []) hx hb hml hown hts hX hC (m_X13_ticks hw (p_takes d k)) (lw_V q1494 q1496 qs68 q124 q1497) hdV_X13_ticks ⟨rfl, rfl⟩ ⟨Nat.le_of_ble_eq_true rfl, Nat.le_of_ble_eq_true rfl⟩ (fx_recv (g := 0) (i := 0) (ci := 0) (q := (RX13, TX13, 24)) hX hC (min_ (by decide)) rfl rfl) hl.1 rfl (Nat.le_of_ble_eq_true rfl) ⟨Nat.zero_le _, Nat.zero_le _⟩ dX13_strikesNow_6 (fun _ H locs hC => ?_)
  refine W.eq (g2 := F0 m 9 ls []) rfl ?_
  refine lv_aload_n hx hb dX13_strikesNow_9 rfl (lv_at hl 0 rfl) ?_
  refine lv_iload_n hx hb dX13_strikesNow_10 rfl (lv_at hl 1 rfl) ?_
  refine fc_V (As := [.int k]) (rest := []) hx hb hml hown hts hX hC (m_X13_reaches (hw.ticks _) k hk) (lw_V q1505 q1507 qs70 q124 q1508) hdV_X13_reaches ⟨rfl, rfl⟩ ⟨Nat.le_of_ble_eq_true rfl, Nat.le_of_ble_eq_true rfl⟩ (fx_recv (g := 0) (i := 0) (ci := 0) (q := (RX13, TX13, 24)) hX hC (min_ (by decide)) rfl rfl) hl.1 rfl (Nat.le_of_ble_eq_true rfl) ⟨Nat.zero_le _, Nat.zero_le _⟩ dX13_strikesNow_11 (fun _ H locs hC => ?_)
  refine W.eq (g2 := F0 m 14 ls [.int (b2i (p_hits (p_ticks (ix (p_takes d k)) d) k))]) rfl ?_
  refine fb_ne (tgt := 19) hx hb dX13_strikesNow_14 (by decide) (fun c_4 => ?_) (fun c_4 => ?_)
  · refine lv_aload_n hx hb dX13_strikesNow_19 rfl (lv_at hl 0 rfl) ?_
    refine fg_get (C := RX13) (T := TX13) (N := 24) (ci := 0) (g := 0) (i := 0) (v := .ref (G.ad 0 1)) hx hb hown hts hX hC in_X13 rfl (min_ (by decide)) rfl 0 (by decide) q1310 (fun _ h => h) rfl dX13_strikesNow_20 ?_
    refine lv_iload_n hx hb dX13_strikesNow_23 rfl (lv_at hl 1 rfl) ?_
    refine lv_iconst (v := 3) hx hb dX13_strikesNow_24 rfl ?_
    refine fc_S (As := [.int k, .int 3]) (rest := [.ref (G.ad 0 1)]) hx hb hml hown hts hX hC (m_X13_place k 3) (lw_S q1460 q1461 q124 q1462) hdS_X13_place ⟨rfl, rfl⟩ ⟨Nat.le_of_ble_eq_true rfl, Nat.le_of_ble_eq_true rfl⟩ hl.1 rfl (Nat.le_of_ble_eq_true rfl) ⟨Nat.zero_le _, Nat.zero_le _⟩ dX13_strikesNow_25 (fun _ H locs hC => ?_)
    refine W.eq (g2 := F0 m 28 ls [.int (92 + 4 * k + 3), .ref (G.ad 0 1)]) rfl ?_
    refine lv_sipush (v := 999) hx hb dX13_strikesNow_28 rfl ?_
    refine lv_aload_n hx hb dX13_strikesNow_31 rfl (lv_at hl 0 rfl) ?_
    refine lv_iload_n hx hb dX13_strikesNow_32 rfl (lv_at hl 1 rfl) ?_
    refine lv_iconst (v := 3) hx hb dX13_strikesNow_33 rfl ?_
    refine fc_V (As := [.int k, .int 3]) (rest := [.int 999, .int (92 + 4 * k + 3), .ref (G.ad 0 1)]) hx hb hml hown hts hX hC (m_X13_strikeIs_3 k hk) (lw_V q1475 q1477 qs64 q124 q1478) hdV_X13_strikeIs ⟨rfl, rfl⟩ ⟨Nat.le_of_ble_eq_true rfl, Nat.le_of_ble_eq_true rfl⟩ (fx_recv (g := 0) (i := 0) (ci := 0) (q := (RX13, TX13, 24)) hX hC (min_ (by decide)) rfl rfl) hl.1 rfl (Nat.le_of_ble_eq_true rfl) ⟨Nat.zero_le _, Nat.zero_le _⟩ dX13_strikesNow_34 (fun _ H locs hC => ?_)
    refine W.eq (g2 := F0 m 37 ls [.int ((p_ticks (ix (p_takes d k)) d) (95 + 4 * ix k)), .int 999, .int (92 + 4 * k + 3), .ref (G.ad 0 1)]) rfl ?_
    refine lv_iconst (v := 1) hx hb dX13_strikesNow_37 rfl ?_
    refine lv_iadd hx hb dX13_strikesNow_38 ?_
    refine fw_min hx hb (hml.trans hl.1.symm) hown hts q1526 (Nat.le_of_ble_eq_true rfl) (Nat.le_of_ble_eq_true rfl) (Nat.zero_le _) (Nat.zero_le _) q792 q125 q793 dX13_strikesNow_39 ?_
    refine fg_iast (g := 0) (i := 1) (t0 := 0) hx hb hX hC (min_ (by decide)) rfl rfl (vinpl 3 hk (by decide)) (mct G (mpg (upd (p_ticks (ix (p_takes d k)) d) (95 + 4 * ix k) (mn 999 (((p_ticks (ix (p_takes d k)) d) (95 + 4 * ix k)) + 1))) kp as bf sc fd tp it ws sz nu mv)) (mu mp1 (mst (ixpl 3 hk (by decide)))) dX13_strikesNow_42 (fun H locs hC => ?_)
    refine lv_aload_n hx hb dX13_strikesNow_43 rfl (lv_at hl 0 rfl) ?_
    refine fg_get (C := RX13) (T := TX13) (N := 24) (ci := 0) (g := 0) (i := 0) (v := .ref (G.ad 0 1)) hx hb hown hts hX hC in_X13 rfl (min_ (by decide)) rfl 0 (by decide) q1310 (fun _ h => h) rfl dX13_strikesNow_44 ?_
    refine lv_iconst (v := 3) hx hb dX13_strikesNow_47 rfl ?_
    refine lv_bipush (v := 35) hx hb dX13_strikesNow_48 rfl ?_
    refine lv_aload_n hx hb dX13_strikesNow_50 rfl (lv_at hl 0 rfl) ?_
    refine fg_get (C := RX13) (T := TX13) (N := 24) (ci := 0) (g := 0) (i := 0) (v := .ref (G.ad 0 1)) hx hb hown hts hX hC in_X13 rfl (min_ (by decide)) rfl 0 (by decide) q1310 (fun _ h => h) rfl dX13_strikesNow_51 ?_
    refine lv_iconst (v := 3) hx hb dX13_strikesNow_54 rfl ?_
    refine fg_iald (g := 0) (i := 1) (t0 := 0) (v := (p_ticks (ix (p_takes d k)) d) 3) hx hb hX hC (min_ (by decide)) rfl rfl (vin_b rfl) (upd_n (j := 3) (by omega)) dX13_strikesNow_55 ?_
    refine lv_isub hx hb dX13_strikesNow_56 ?_
    refine fg_iast (g := 0) (i := 1) (t0 := 0) hx hb hX hC (min_ (by decide)) rfl rfl (vin_b rfl) (mct G (mpg (upd (upd (p_ticks (ix (p_takes d k)) d) (95 + 4 * ix k) (mn 999 (((p_ticks (ix (p_takes d k)) d) (95 + 4 * ix k)) + 1))) 3 (35 - ((p_ticks (ix (p_takes d k)) d) 3))) kp as bf sc fd tp it ws sz nu mv)) (mu mp1 (fun _ _ h => h)) dX13_strikesNow_57 (fun H locs hC => ?_)
    refine lv_aload_n hx hb dX13_strikesNow_58 rfl (lv_at hl 0 rfl) ?_
    refine fg_get (C := RX13) (T := TX13) (N := 24) (ci := 0) (g := 0) (i := 0) (v := .ref (G.ad 0 1)) hx hb hown hts hX hC in_X13 rfl (min_ (by decide)) rfl 0 (by decide) q1310 (fun _ h => h) rfl dX13_strikesNow_59 ?_
    refine lv_bipush (v := 7) hx hb dX13_strikesNow_62 rfl ?_
    refine lv_iconst (v := 0) hx hb dX13_strikesNow_64 rfl ?_
    refine fg_iast (g := 0) (i := 1) (t0 := 0) hx hb hX hC (min_ (by decide)) rfl rfl (vin_b rfl) (mct G (mpg (upd (upd (upd (p_ticks (ix (p_takes d k)) d) (95 + 4 * ix k) (mn 999 (((p_ticks (ix (p_takes d k)) d) (95 + 4 * ix k)) + 1))) 3 (35 - ((p_ticks (ix (p_takes d k)) d) 3))) 7 0) kp as bf sc fd tp it ws sz nu mv)) (mu mp1 (fun _ _ h => h)) dX13_strikesNow_65 (fun H locs hC => ?_)
    refine lv_iconst (v := 1) hx hb dX13_strikesNow_66 rfl ?_
    have hs : s_made d k = ((1, upd (upd (upd (p_ticks (ix (p_takes d k)) d) (95 + 4 * ix k) (mn 999 (((p_ticks (ix (p_takes d k)) d) (95 + 4 * ix k)) + 1))) 3 (35 - ((p_ticks (ix (p_takes d k)) d) 3))) 7 0) : Int32 × Row) := by rw [s_made, if_pos c_4]
    exact fr_i hx hb hr hlocks hX hC () (congrArg (fun z => some (Value.int z)) (t2_1 hs)) (congrArg (fun z => mct G (mpg z kp as bf sc fd tp it ws sz nu mv)) (t2_2 hs)).symm dX13_strikesNow_67
  · refine lv_iconst (v := 0) hx hb dX13_strikesNow_17 rfl ?_
    have hs : s_made d k = ((0, p_ticks (ix (p_takes d k)) d) : Int32 × Row) := by rw [s_made, if_neg c_4]
    exact fr_i hx hb hr hlocks hX hC () (congrArg (fun z => some (Value.int z)) (t2_1 hs)) (congrArg (fun z => mct G (mpg z kp as bf sc fd tp it ws sz nu mv)) (t2_2 hs)).symm dX13_strikesNow_18
set_option maxRecDepth 100000 in
theorem m_X13_strikes {l : Launch} {G : Gm} {d kp as bf sc fd tp it ws sz nu mv : Row} (hw : WF d) (k : Int32) : Cm l yX13_strikes (ws_ yX13_strikes cX13_strikes 2 (some .int)) ({ frames := 5, cells := 0, slots := 0, locals := 107 }) (mF G) [.ref (G.ad 0 0), .int k] (mct G (mpg d kp as bf sc fd tp it ws sz nu mv)) (fun _ : Unit => some (.int ((s_strikes d fd k).1))) (fun _ => mct G (mpg ((s_strikes d fd k).2.1) kp as bf sc ((s_strikes d fd k).2.2) tp it ws sz nu mv)) := by
  refine Cm.start (by decide) (Nat.le_of_ble_eq_true rfl) ?_
  intro p e s m below meth c hf hX hC ls hl
  obtain ⟨hx, hb, hr, hml, hown, hts, hlocks⟩ := hf
  have hl : lv_has ls 2 [(0, .ref (G.ad 0 0)), (1, .int k)] := hl
  have hown : s.vm.findClass "OwlEarsModel" = some m.cls := hown
  refine lv_aload_n hx hb dX13_strikes_0 rfl (lv_at hl 0 rfl) ?_
  refine lv_iload_n hx hb dX13_strikes_1 rfl (lv_at hl 1 rfl) ?_
  refine fc_V (As := [.int k]) (rest := []) hx hb hml hown hts hX hC (m_X13_isStrike k) (lw_V q1467 q1469 qs62 q124 q1470) hdV_X13_isStrike ⟨rfl, rfl⟩ ⟨Nat.le_of_ble_eq_true rfl, Nat.le_of_ble_eq_true rfl⟩ (fx_recv (g := 0) (i := 0) (ci := 0) (q := (RX13, TX13, 24)) hX hC (min_ (by decide)) rfl rfl) hl.1 rfl (Nat.le_of_ble_eq_true rfl) ⟨Nat.zero_le _, Nat.zero_le _⟩ dX13_strikes_2 (fun _ H locs hC => ?_)
  refine W.eq (g2 := F0 m 5 ls [.int (b2i (p_in k 0 (d 1 - 1)))]) rfl ?_
  refine fb_ne (tgt := 15) hx hb dX13_strikes_5 (by decide) (fun c_2 => ?_) (fun c_2 => ?_)
  · refine lv_aload_n hx hb dX13_strikes_15 rfl (lv_at hl 0 rfl) ?_
    refine fg_get (C := RX13) (T := TX13) (N := 24) (ci := 0) (g := 0) (i := 0) (v := .ref (G.ad 0 1)) hx hb hown hts hX hC in_X13 rfl (min_ (by decide)) rfl 0 (by decide) q1310 (fun _ h => h) rfl dX13_strikes_16 ?_
    refine lv_iconst (v := 0) hx hb dX13_strikes_19 rfl ?_
    refine fg_iald (g := 0) (i := 1) (t0 := 0) (v := d 0) hx hb hX hC (min_ (by decide)) rfl rfl (vin_b rfl) rfl dX13_strikes_20 ?_
    refine lv_aload_n hx hb dX13_strikes_21 rfl (lv_at hl 0 rfl) ?_
    refine lv_iload_n hx hb dX13_strikes_22 rfl (lv_at hl 1 rfl) ?_
    refine fc_V (As := [.int k]) (rest := [.int (d 0)]) hx hb hml hown hts hX hC (m_X13_takes k (kin_of hw c_2)) (lw_V q1471 q1473 qs63 q124 q1474) hdV_X13_takes ⟨rfl, rfl⟩ ⟨Nat.le_of_ble_eq_true rfl, Nat.le_of_ble_eq_true rfl⟩ (fx_recv (g := 0) (i := 0) (ci := 0) (q := (RX13, TX13, 24)) hX hC (min_ (by decide)) rfl rfl) hl.1 rfl (Nat.le_of_ble_eq_true rfl) ⟨Nat.zero_le _, Nat.zero_le _⟩ dX13_strikes_23 (fun _ H locs hC => ?_)
    refine W.eq (g2 := F0 m 26 ls [.int (p_takes d k), .int (d 0)]) rfl ?_
    refine lv_iadd hx hb dX13_strikes_26 ?_
    refine lv_ldc (v := 99999) hx hb hown (hts _ q1520) dX13_strikes_27 ?_
    refine fj_le (tgt := 41) hx hb dX13_strikes_29 (by decide) (fun c_4 => ?_) (fun c_4 => ?_)
    · refine lv_aload_n hx hb dX13_strikes_41 rfl (lv_at hl 0 rfl) ?_
      refine lv_iload_n hx hb dX13_strikes_42 rfl (lv_at hl 1 rfl) ?_
      refine fc_V (As := [.int k]) (rest := []) hx hb hml hown hts hX hC (m_X13_strikesNow hw k (kin_of hw c_2)) (lw_V q1522 q1524 qs71 q124 q1525) hdV_X13_strikesNow ⟨rfl, rfl⟩ ⟨Nat.le_of_ble_eq_true rfl, Nat.le_of_ble_eq_true rfl⟩ (fx_recv (g := 0) (i := 0) (ci := 0) (q := (RX13, TX13, 24)) hX hC (min_ (by decide)) rfl rfl) hl.1 rfl (Nat.le_of_ble_eq_true rfl) ⟨Nat.zero_le _, Nat.zero_le _⟩ dX13_strikes_43 (fun _ H locs hC => ?_)
      refine W.eq (g2 := F0 m 46 ls [.int ((s_made d k).1)]) rfl ?_
      have hs : s_strikes d fd k = (((s_made d k).1, (s_made d k).2, fd) : Int32 × Row × Row) := by first | grind [s_strikes] | rfl
      exact fr_i hx hb hr hlocks hX hC () (congrArg (fun z => some (Value.int z)) (t3_1 hs)) ((congrArg (fun z => mct G (mpg z kp as bf sc ((s_strikes d fd k).2.2) tp it ws sz nu mv)) (t3_2 hs)).trans (congrArg (fun z => mct G (mpg ((s_made d k).2) kp as bf sc z tp it ws sz nu mv)) (t3_3 hs))).symm dX13_strikes_46
    · refine lv_aload_n hx hb dX13_strikes_32 rfl (lv_at hl 0 rfl) ?_
      refine lv_ldc (v := (-1000005)) hx hb hown (hts _ q1521) dX13_strikes_33 ?_
      refine fc_V (As := [.int (-1000005)]) (rest := []) hx hb hml hown hts hX hC (m_X13_finding 4 (vin_b rfl)) (lw_V q1404 q1406 qs56 q124 q1407) hdV_X13_finding ⟨rfl, rfl⟩ ⟨Nat.le_of_ble_eq_true rfl, Nat.le_of_ble_eq_true rfl⟩ (fx_recv (g := 0) (i := 0) (ci := 0) (q := (RX13, TX13, 24)) hX hC (min_ (by decide)) rfl rfl) hl.1 rfl (Nat.le_of_ble_eq_true rfl) ⟨Nat.zero_le _, Nat.zero_le _⟩ dX13_strikes_35 (fun _ H locs hC => ?_)
      refine W.eq (g2 := F0 m 38 ls [.int (-1000005)]) rfl ?_
      refine lv_goto (tgt := 46) hx hb dX13_strikes_38 (by decide) ?_
      have hs : s_strikes d fd k = (((-1000005), d, p_find fd 4) : Int32 × Row × Row) := by first | grind [s_strikes] | rfl
      exact fr_i hx hb hr hlocks hX hC () (congrArg (fun z => some (Value.int z)) (t3_1 hs)) ((congrArg (fun z => mct G (mpg z kp as bf sc ((s_strikes d fd k).2.2) tp it ws sz nu mv)) (t3_2 hs)).trans (congrArg (fun z => mct G (mpg d kp as bf sc z tp it ws sz nu mv)) (t3_3 hs))).symm dX13_strikes_46
  · refine lv_aload_n hx hb dX13_strikes_8 rfl (lv_at hl 0 rfl) ?_
    refine lv_ldc (v := (-1000001)) hx hb hown (hts _ q1403) dX13_strikes_9 ?_
    refine fc_V (As := [.int (-1000001)]) (rest := []) hx hb hml hown hts hX hC (m_X13_finding 0 (vin_b rfl)) (lw_V q1404 q1406 qs56 q124 q1407) hdV_X13_finding ⟨rfl, rfl⟩ ⟨Nat.le_of_ble_eq_true rfl, Nat.le_of_ble_eq_true rfl⟩ (fx_recv (g := 0) (i := 0) (ci := 0) (q := (RX13, TX13, 24)) hX hC (min_ (by decide)) rfl rfl) hl.1 rfl (Nat.le_of_ble_eq_true rfl) ⟨Nat.zero_le _, Nat.zero_le _⟩ dX13_strikes_11 (fun _ H locs hC => ?_)
    refine W.eq (g2 := F0 m 14 ls [.int (-1000001)]) rfl ?_
    have hs : s_strikes d fd k = (((-1000001), d, p_find fd 0) : Int32 × Row × Row) := by first | grind [s_strikes] | rfl
    exact fr_i hx hb hr hlocks hX hC () (congrArg (fun z => some (Value.int z)) (t3_1 hs)) ((congrArg (fun z => mct G (mpg z kp as bf sc ((s_strikes d fd k).2.2) tp it ws sz nu mv)) (t3_2 hs)).trans (congrArg (fun z => mct G (mpg d kp as bf sc z tp it ws sz nu mv)) (t3_3 hs))).symm dX13_strikes_14
set_option maxRecDepth 100000 in
theorem m_X13_go {l : Launch} {G : Gm} {d kp as bf sc fd tp it ws sz nu mv : Row} (hw : WF d) (n : Int32) : Cm l yX13_go (ws_ yX13_go cX13_go 2 (some .int)) ({ frames := 3, cells := 0, slots := 0, locals := 64 }) (mF G) [.ref (G.ad 0 0), .int n] (mct G (mpg d kp as bf sc fd tp it ws sz nu mv)) (fun _ : Unit => some (.int ((s_go d fd n).1))) (fun _ => mct G (mpg ((s_go d fd n).2.1) kp as bf sc ((s_go d fd n).2.2) tp it ws sz nu mv)) := by
  refine Cm.start (by decide) (Nat.le_of_ble_eq_true rfl) ?_
  intro p e s m below meth c hf hX hC ls hl
  obtain ⟨hx, hb, hr, hml, hown, hts, hlocks⟩ := hf
  have hl : lv_has ls 2 [(0, .ref (G.ad 0 0)), (1, .int n)] := hl
  have hown : s.vm.findClass "OwlEarsModel" = some m.cls := hown
  refine lv_iload_n hx hb dX13_go_0 rfl (lv_at hl 1 rfl) ?_
  refine lv_iconst (v := 1) hx hb dX13_go_1 rfl ?_
  refine lv_bipush (v := 60) hx hb dX13_go_2 rfl ?_
  refine fc_S (As := [.int n, .int 1, .int 60]) (rest := []) hx hb hml hown hts hX hC (m_X13_within n 1 60) (lw_S q1390 q1391 q124 q1392) hdS_X13_within ⟨rfl, rfl⟩ ⟨Nat.le_of_ble_eq_true rfl, Nat.le_of_ble_eq_true rfl⟩ hl.1 rfl (Nat.le_of_ble_eq_true rfl) ⟨Nat.zero_le _, Nat.zero_le _⟩ dX13_go_4 (fun _ H locs hC => ?_)
  refine W.eq (g2 := F0 m 7 ls [.int (b2i (p_in n 1 60))]) rfl ?_
  refine fb_ne (tgt := 17) hx hb dX13_go_7 (by decide) (fun c_2 => ?_) (fun c_2 => ?_)
  · refine lv_aload_n hx hb dX13_go_17 rfl (lv_at hl 0 rfl) ?_
    refine fg_get (C := RX13) (T := TX13) (N := 24) (ci := 0) (g := 0) (i := 0) (v := .ref (G.ad 0 1)) hx hb hown hts hX hC in_X13 rfl (min_ (by decide)) rfl 0 (by decide) q1310 (fun _ h => h) rfl dX13_go_18 ?_
    refine lv_iconst (v := 0) hx hb dX13_go_21 rfl ?_
    refine fg_iald (g := 0) (i := 1) (t0 := 0) (v := d 0) hx hb hX hC (min_ (by decide)) rfl rfl (vin_b rfl) rfl dX13_go_22 ?_
    refine lv_iload_n hx hb dX13_go_23 rfl (lv_at hl 1 rfl) ?_
    refine lv_iadd hx hb dX13_go_24 ?_
    refine lv_ldc (v := 99999) hx hb hown (hts _ q1520) dX13_go_25 ?_
    refine fj_le (tgt := 37) hx hb dX13_go_27 (by decide) (fun c_3 => ?_) (fun c_3 => ?_)
    · refine lv_aload_n hx hb dX13_go_37 rfl (lv_at hl 0 rfl) ?_
      refine lv_iload_n hx hb dX13_go_38 rfl (lv_at hl 1 rfl) ?_
      refine fc_V (As := [.int n]) (rest := []) hx hb hml hown hts hX hC (m_X13_ticks hw n) (lw_V q1494 q1496 qs68 q124 q1497) hdV_X13_ticks ⟨rfl, rfl⟩ ⟨Nat.le_of_ble_eq_true rfl, Nat.le_of_ble_eq_true rfl⟩ (fx_recv (g := 0) (i := 0) (ci := 0) (q := (RX13, TX13, 24)) hX hC (min_ (by decide)) rfl rfl) hl.1 rfl (Nat.le_of_ble_eq_true rfl) ⟨Nat.zero_le _, Nat.zero_le _⟩ dX13_go_39 (fun _ H locs hC => ?_)
      refine W.eq (g2 := F0 m 42 ls []) rfl ?_
      refine lv_aload_n hx hb dX13_go_42 rfl (lv_at hl 0 rfl) ?_
      refine fg_get (C := RX13) (T := TX13) (N := 24) (ci := 0) (g := 0) (i := 0) (v := .ref (G.ad 0 1)) hx hb hown hts hX hC in_X13 rfl (min_ (by decide)) rfl 0 (by decide) q1310 (fun _ h => h) rfl dX13_go_43 ?_
      refine lv_iconst (v := 3) hx hb dX13_go_46 rfl ?_
      refine fg_iald (g := 0) (i := 1) (t0 := 0) (v := (p_ticks (ix n) d) 3) hx hb hX hC (min_ (by decide)) rfl rfl (vin_b rfl) rfl dX13_go_47 ?_
      have hs : s_go d fd n = (((p_ticks (ix n) d) 3, p_ticks (ix n) d, fd) : Int32 × Row × Row) := by first | grind [s_go] | rfl
      exact fr_i hx hb hr hlocks hX hC () (congrArg (fun z => some (Value.int z)) (t3_1 hs)) ((congrArg (fun z => mct G (mpg z kp as bf sc ((s_go d fd n).2.2) tp it ws sz nu mv)) (t3_2 hs)).trans (congrArg (fun z => mct G (mpg (p_ticks (ix n) d) kp as bf sc z tp it ws sz nu mv)) (t3_3 hs))).symm dX13_go_48
    · refine lv_aload_n hx hb dX13_go_30 rfl (lv_at hl 0 rfl) ?_
      refine lv_ldc (v := (-1000005)) hx hb hown (hts _ q1521) dX13_go_31 ?_
      refine fc_V (As := [.int (-1000005)]) (rest := []) hx hb hml hown hts hX hC (m_X13_finding 4 (vin_b rfl)) (lw_V q1404 q1406 qs56 q124 q1407) hdV_X13_finding ⟨rfl, rfl⟩ ⟨Nat.le_of_ble_eq_true rfl, Nat.le_of_ble_eq_true rfl⟩ (fx_recv (g := 0) (i := 0) (ci := 0) (q := (RX13, TX13, 24)) hX hC (min_ (by decide)) rfl rfl) hl.1 rfl (Nat.le_of_ble_eq_true rfl) ⟨Nat.zero_le _, Nat.zero_le _⟩ dX13_go_33 (fun _ H locs hC => ?_)
      refine W.eq (g2 := F0 m 36 ls [.int (-1000005)]) rfl ?_
      have hs : s_go d fd n = (((-1000005), d, p_find fd 4) : Int32 × Row × Row) := by first | grind [s_go] | rfl
      exact fr_i hx hb hr hlocks hX hC () (congrArg (fun z => some (Value.int z)) (t3_1 hs)) ((congrArg (fun z => mct G (mpg z kp as bf sc ((s_go d fd n).2.2) tp it ws sz nu mv)) (t3_2 hs)).trans (congrArg (fun z => mct G (mpg d kp as bf sc z tp it ws sz nu mv)) (t3_3 hs))).symm dX13_go_36
  · refine lv_aload_n hx hb dX13_go_10 rfl (lv_at hl 0 rfl) ?_
    refine lv_ldc (v := (-1000001)) hx hb hown (hts _ q1403) dX13_go_11 ?_
    refine fc_V (As := [.int (-1000001)]) (rest := []) hx hb hml hown hts hX hC (m_X13_finding 0 (vin_b rfl)) (lw_V q1404 q1406 qs56 q124 q1407) hdV_X13_finding ⟨rfl, rfl⟩ ⟨Nat.le_of_ble_eq_true rfl, Nat.le_of_ble_eq_true rfl⟩ (fx_recv (g := 0) (i := 0) (ci := 0) (q := (RX13, TX13, 24)) hX hC (min_ (by decide)) rfl rfl) hl.1 rfl (Nat.le_of_ble_eq_true rfl) ⟨Nat.zero_le _, Nat.zero_le _⟩ dX13_go_13 (fun _ H locs hC => ?_)
    refine W.eq (g2 := F0 m 16 ls [.int (-1000001)]) rfl ?_
    have hs : s_go d fd n = (((-1000001), d, p_find fd 0) : Int32 × Row × Row) := by first | grind [s_go] | rfl
    exact fr_i hx hb hr hlocks hX hC () (congrArg (fun z => some (Value.int z)) (t3_1 hs)) ((congrArg (fun z => mct G (mpg z kp as bf sc ((s_go d fd n).2.2) tp it ws sz nu mv)) (t3_2 hs)).trans (congrArg (fun z => mct G (mpg d kp as bf sc z tp it ws sz nu mv)) (t3_3 hs))).symm dX13_go_16
set_option maxRecDepth 100000 in
theorem m_X13_having {l : Launch} {G : Gm} {d kp as bf sc fd tp it ws sz nu mv : Row} (hw : WF d)  : Cm l yX13_having (ws_ yX13_having cX13_having 3 (some .int)) ({ frames := 5, cells := 0, slots := 0, locals := 108 }) (mF G) [.ref (G.ad 0 0)] (mct G (mpg d kp as bf sc fd tp it ws sz nu mv)) (fun u : Row => some (.int (p_having d))) (fun u => mct G (mpg d kp as u sc fd tp it ws sz nu mv)) := by
  refine Cm.start (by decide) (Nat.le_of_ble_eq_true rfl) ?_
  intro p e s m below meth c hf hX hC ls hl
  obtain ⟨hx, hb, hr, hml, hown, hts, hlocks⟩ := hf
  have hl : lv_has ls 3 [(0, .ref (G.ad 0 0))] := hl
  have hown : s.vm.findClass "OwlEarsModel" = some m.cls := hown
  refine lv_iconst (v := 0) hx hb dX13_having_0 rfl ?_
  refine lv_istore_n (lv' := [(1, .int 0), (0, .ref (G.ad 0 0))]) hx hb dX13_having_1 rfl hl (by decide) rfl (fun ls hl => ?_)
  refine lv_iconst (v := 0) hx hb dX13_having_2 rfl ?_
  refine lv_istore_n (lv' := [(2, .int 0), (1, .int 0), (0, .ref (G.ad 0 0))]) hx hb dX13_having_3 rfl hl (by decide) rfl (fun ls hl => ?_)
  have L_1 : ∀ (k1 i1 : Nat), i1 + k1 = ix (d 1) → ∀ (bf1 : Row) (H : Heap) (locs : List Loc), fC (mF G) (mct G (mpg d kp as bf1 sc fd tp it ws sz nu mv)) s.heap H locs → ∀ ls : Array Slot, lv_has ls 3 [(2, .int (nI i1)), (1, .int (p_orr (fun k => if p_has d (nI k) then 1 <<< (nI k &&& 31) else 0) i1)), (0, .ref (G.ad 0 0))] → WG p l e ({ frames := 5, cells := 0, slots := 0, locals := 108 }) s m (([.ref (G.ad 0 0)] : List Value).toArray) below meth c H locs (mF G) (fun u : Row => some (.int (p_having d))) (fun u => mct G (mpg d kp as u sc fd tp it ws sz nu mv)) (F0 m 4 ls []) := by
    intro k1
    induction k1 with
    | zero =>
      intro i1 hi1 bf1 H locs hC ls hl
      obtain rfl : i1 = ix (d 1) := by omega
      refine lv_iload_n hx hb dX13_having_4 rfl (lv_at hl 0 rfl) ?_
      refine lv_aload_n hx hb dX13_having_5 rfl (lv_at hl 2 rfl) ?_
      refine fg_get (C := RX13) (T := TX13) (N := 24) (ci := 0) (g := 0) (i := 0) (v := .ref (G.ad 0 1)) hx hb hown hts hX hC in_X13 rfl (min_ (by decide)) rfl 0 (by decide) q1310 (fun _ h => h) rfl dX13_having_6 ?_
      refine lv_iconst (v := 1) hx hb dX13_having_9 rfl ?_
      refine fg_iald (g := 0) (i := 1) (t0 := 0) (v := d 1) hx hb hX hC (min_ (by decide)) rfl rfl (vin_b rfl) rfl dX13_having_10 ?_
      refine fj_ge (tgt := 38) hx hb dX13_having_11 (by decide) (fun _ => ?_) (fun z_2 => absurd z_2 (nlt_ix (n := d 1)))
      refine lv_iload_n hx hb dX13_having_38 rfl (lv_at hl 1 rfl) ?_
      exact fr_i hx hb hr hlocks hX hC bf1 (congrArg (fun z => some (Value.int z)) (rfl)) rfl dX13_having_39
    | succ k1 ih1 =>
      intro i1 hi1 bf1 H locs hC ls hl
      have hz1 : i1 < 2147483648 := by have := ix_lt (d 1); omega
      refine lv_iload_n hx hb dX13_having_4 rfl (lv_at hl 0 rfl) ?_
      refine lv_aload_n hx hb dX13_having_5 rfl (lv_at hl 2 rfl) ?_
      refine fg_get (C := RX13) (T := TX13) (N := 24) (ci := 0) (g := 0) (i := 0) (v := .ref (G.ad 0 1)) hx hb hown hts hX hC in_X13 rfl (min_ (by decide)) rfl 0 (by decide) q1310 (fun _ h => h) rfl dX13_having_6 ?_
      refine lv_iconst (v := 1) hx hb dX13_having_9 rfl ?_
      refine fg_iald (g := 0) (i := 1) (t0 := 0) (v := d 1) hx hb hX hC (min_ (by decide)) rfl rfl (vin_b rfl) rfl dX13_having_10 ?_
      refine fj_ge (tgt := 38) hx hb dX13_having_11 (by decide) (fun z_3 => absurd (lt_ix (n := d 1) (show i1 < ix (d 1) by omega)) z_3) (fun _ => ?_)
      refine lv_iload_n hx hb dX13_having_14 rfl (lv_at hl 1 rfl) ?_
      refine lv_aload_n hx hb dX13_having_15 rfl (lv_at hl 2 rfl) ?_
      refine lv_iload_n hx hb dX13_having_16 rfl (lv_at hl 0 rfl) ?_
      refine fc_V (As := [.int (nI i1)]) (rest := [.int (p_orr (fun k => if p_has d (nI k) then 1 <<< (nI k &&& 31) else 0) i1)]) hx hb hml hown hts hX hC (m_X13_has hw (nI i1) (vp_in_nI (show i1 < 8 by have := vin_lt hw.many; omega) (by decide))) (lw_V q1487 q1489 qs67 q124 q1490) hdV_X13_has ⟨rfl, rfl⟩ ⟨Nat.le_of_ble_eq_true rfl, Nat.le_of_ble_eq_true rfl⟩ (fx_recv (g := 0) (i := 0) (ci := 0) (q := (RX13, TX13, 24)) hX hC (min_ (by decide)) rfl rfl) hl.1 rfl (Nat.le_of_ble_eq_true rfl) ⟨Nat.zero_le _, Nat.zero_le _⟩ dX13_having_17 (fun _ H locs hC => ?_)
      refine W.eq (g2 := F0 m 20 ls [.int (b2i (p_has d (nI i1))), .int (p_orr (fun k => if p_has d (nI k) then 1 <<< (nI k &&& 31) else 0) i1)]) rfl ?_
      refine fw_join (C := p_has d (nI i1)) (a := 1 <<< ((nI i1) &&& 31)) (b := 0) (pcj := 30) (ls := ls) (rest := [.int (p_orr (fun k => if p_has d (nI k) then 1 <<< (nI k &&& 31) else 0) i1)]) (fun ja jb => ?_) ?_
      · refine fb_eq (tgt := 29) hx hb dX13_having_20 (by decide) (fun c_5 => ?_) (fun c_5 => ?_)
        · refine lv_iconst (v := 0) hx hb dX13_having_29 rfl ?_
          exact jb c_5
        · refine lv_iconst (v := 1) hx hb dX13_having_23 rfl ?_
          refine lv_iload_n hx hb dX13_having_24 rfl (lv_at hl 0 rfl) ?_
          refine lv_ishl hx hb dX13_having_25 ?_
          refine lv_goto (tgt := 30) hx hb dX13_having_26 (by decide) ?_
          exact ja c_5
      refine lv_ior hx hb dX13_having_30 ?_
      refine lv_istore_n (lv' := [(1, .int ((p_orr (fun k => if p_has d (nI k) then 1 <<< (nI k &&& 31) else 0) i1) ||| (if p_has d (nI i1) then 1 <<< ((nI i1) &&& 31) else 0))), (2, .int (nI i1)), (0, .ref (G.ad 0 0))]) hx hb dX13_having_31 rfl hl (by decide) rfl (fun ls hl => ?_)
      refine lv_iinc (v := nI (i1 + 1)) (lv' := [(2, .int (nI (i1 + 1))), (1, .int ((p_orr (fun k => if p_has d (nI k) then 1 <<< (nI k &&& 31) else 0) i1) ||| (if p_has d (nI i1) then 1 <<< ((nI i1) &&& 31) else 0))), (0, .ref (G.ad 0 0))]) hx hb dX13_having_32 hl (k := 1) rfl (nI_1 _) (by decide) rfl (fun ls hl => ?_)
      refine lv_goto (tgt := 4) hx hb dX13_having_35 (by decide) ?_
      exact ih1 (i1 + 1) (by omega) _ _ _ hC ls (lv_sub hl [0, 1, 2] rfl)
  exact L_1 (ix (d 1)) 0 (by omega) _ _ _ hC ls (lv_sub hl [0, 1, 2] rfl)
set_option maxRecDepth 100000 in
theorem m_X13_hadAll {l : Launch} {G : Gm} {d kp as bf sc fd tp it ws sz nu mv : Row} (hw : WF d)  : Cm l yX13_hadAll (ws_ yX13_hadAll cX13_hadAll 3 (some .int)) ({ frames := 2, cells := 0, slots := 0, locals := 43 }) (mF G) [.ref (G.ad 0 0)] (mct G (mpg d kp as bf sc fd tp it ws sz nu mv)) (fun _ : Unit => some (.int (p_sum (fun k => d (95 + 4 * k)) (ix (d 1))))) (fun _ => mct G (mpg d kp as bf sc fd tp it ws sz nu mv)) := by
  refine Cm.start (by decide) (Nat.le_of_ble_eq_true rfl) ?_
  intro p e s m below meth c hf hX hC ls hl
  obtain ⟨hx, hb, hr, hml, hown, hts, hlocks⟩ := hf
  have hl : lv_has ls 3 [(0, .ref (G.ad 0 0))] := hl
  have hown : s.vm.findClass "OwlEarsModel" = some m.cls := hown
  refine lv_iconst (v := 0) hx hb dX13_hadAll_0 rfl ?_
  refine lv_istore_n (lv' := [(1, .int 0), (0, .ref (G.ad 0 0))]) hx hb dX13_hadAll_1 rfl hl (by decide) rfl (fun ls hl => ?_)
  refine lv_iconst (v := 0) hx hb dX13_hadAll_2 rfl ?_
  refine lv_istore_n (lv' := [(2, .int 0), (1, .int 0), (0, .ref (G.ad 0 0))]) hx hb dX13_hadAll_3 rfl hl (by decide) rfl (fun ls hl => ?_)
  have L_1 : ∀ (k1 i1 : Nat), i1 + k1 = ix (d 1) → ∀ (H : Heap) (locs : List Loc), fC (mF G) (mct G (mpg d kp as bf sc fd tp it ws sz nu mv)) s.heap H locs → ∀ ls : Array Slot, lv_has ls 3 [(2, .int (nI i1)), (1, .int (p_sum (fun k => d (95 + 4 * ix (nI k))) i1)), (0, .ref (G.ad 0 0))] → WG p l e ({ frames := 2, cells := 0, slots := 0, locals := 43 }) s m (([.ref (G.ad 0 0)] : List Value).toArray) below meth c H locs (mF G) (fun _ : Unit => some (.int (p_sum (fun k => d (95 + 4 * k)) (ix (d 1))))) (fun _ => mct G (mpg d kp as bf sc fd tp it ws sz nu mv)) (F0 m 4 ls []) := by
    intro k1
    induction k1 with
    | zero =>
      intro i1 hi1 H locs hC ls hl
      obtain rfl : i1 = ix (d 1) := by omega
      refine lv_iload_n hx hb dX13_hadAll_4 rfl (lv_at hl 0 rfl) ?_
      refine lv_aload_n hx hb dX13_hadAll_5 rfl (lv_at hl 2 rfl) ?_
      refine fg_get (C := RX13) (T := TX13) (N := 24) (ci := 0) (g := 0) (i := 0) (v := .ref (G.ad 0 1)) hx hb hown hts hX hC in_X13 rfl (min_ (by decide)) rfl 0 (by decide) q1310 (fun _ h => h) rfl dX13_hadAll_6 ?_
      refine lv_iconst (v := 1) hx hb dX13_hadAll_9 rfl ?_
      refine fg_iald (g := 0) (i := 1) (t0 := 0) (v := d 1) hx hb hX hC (min_ (by decide)) rfl rfl (vin_b rfl) rfl dX13_hadAll_10 ?_
      refine fj_ge (tgt := 29) hx hb dX13_hadAll_11 (by decide) (fun _ => ?_) (fun z_2 => absurd z_2 (nlt_ix (n := d 1)))
      refine lv_iload_n hx hb dX13_hadAll_29 rfl (lv_at hl 1 rfl) ?_
      exact fr_i hx hb hr hlocks hX hC () (congrArg (fun z => some (Value.int z)) (p_sum_congr _ (fun k hk => by rw [ix_nI (by have := ix_lt (d 1); omega)]))) rfl dX13_hadAll_30
    | succ k1 ih1 =>
      intro i1 hi1 H locs hC ls hl
      have hz1 : i1 < 2147483648 := by have := ix_lt (d 1); omega
      refine lv_iload_n hx hb dX13_hadAll_4 rfl (lv_at hl 0 rfl) ?_
      refine lv_aload_n hx hb dX13_hadAll_5 rfl (lv_at hl 2 rfl) ?_
      refine fg_get (C := RX13) (T := TX13) (N := 24) (ci := 0) (g := 0) (i := 0) (v := .ref (G.ad 0 1)) hx hb hown hts hX hC in_X13 rfl (min_ (by decide)) rfl 0 (by decide) q1310 (fun _ h => h) rfl dX13_hadAll_6 ?_
      refine lv_iconst (v := 1) hx hb dX13_hadAll_9 rfl ?_
      refine fg_iald (g := 0) (i := 1) (t0 := 0) (v := d 1) hx hb hX hC (min_ (by decide)) rfl rfl (vin_b rfl) rfl dX13_hadAll_10 ?_
      refine fj_ge (tgt := 29) hx hb dX13_hadAll_11 (by decide) (fun z_3 => absurd (lt_ix (n := d 1) (show i1 < ix (d 1) by omega)) z_3) (fun _ => ?_)
      refine lv_iload_n hx hb dX13_hadAll_14 rfl (lv_at hl 1 rfl) ?_
      refine lv_aload_n hx hb dX13_hadAll_15 rfl (lv_at hl 2 rfl) ?_
      refine lv_iload_n hx hb dX13_hadAll_16 rfl (lv_at hl 0 rfl) ?_
      refine lv_iconst (v := 3) hx hb dX13_hadAll_17 rfl ?_
      refine fc_V (As := [.int (nI i1), .int 3]) (rest := [.int (p_sum (fun k => d (95 + 4 * ix (nI k))) i1)]) hx hb hml hown hts hX hC (m_X13_strikeIs_3 (nI i1) (vp_in_nI (show i1 < 8 by have := vin_lt hw.many; omega) (by decide))) (lw_V q1475 q1477 qs64 q124 q1478) hdV_X13_strikeIs ⟨rfl, rfl⟩ ⟨Nat.le_of_ble_eq_true rfl, Nat.le_of_ble_eq_true rfl⟩ (fx_recv (g := 0) (i := 0) (ci := 0) (q := (RX13, TX13, 24)) hX hC (min_ (by decide)) rfl rfl) hl.1 rfl (Nat.le_of_ble_eq_true rfl) ⟨Nat.zero_le _, Nat.zero_le _⟩ dX13_hadAll_18 (fun _ H locs hC => ?_)
      refine W.eq (g2 := F0 m 21 ls [.int (d (95 + 4 * ix (nI i1))), .int (p_sum (fun k => d (95 + 4 * ix (nI k))) i1)]) rfl ?_
      refine lv_iadd hx hb dX13_hadAll_21 ?_
      refine lv_istore_n (lv' := [(1, .int ((p_sum (fun k => d (95 + 4 * ix (nI k))) i1) + (d (95 + 4 * ix (nI i1))))), (2, .int (nI i1)), (0, .ref (G.ad 0 0))]) hx hb dX13_hadAll_22 rfl hl (by decide) rfl (fun ls hl => ?_)
      refine lv_iinc (v := nI (i1 + 1)) (lv' := [(2, .int (nI (i1 + 1))), (1, .int ((p_sum (fun k => d (95 + 4 * ix (nI k))) i1) + (d (95 + 4 * ix (nI i1))))), (0, .ref (G.ad 0 0))]) hx hb dX13_hadAll_23 hl (k := 1) rfl (nI_1 _) (by decide) rfl (fun ls hl => ?_)
      refine lv_goto (tgt := 4) hx hb dX13_hadAll_26 (by decide) ?_
      exact ih1 (i1 + 1) (by omega) _ _ hC ls (lv_sub hl [0, 1, 2] rfl)
  exact L_1 (ix (d 1)) 0 (by omega) _ _ hC ls (lv_sub hl [0, 1, 2] rfl)
set_option maxRecDepth 100000 in
theorem m_X13_snowAll {l : Launch} {G : Gm} {d kp as bf sc fd tp it ws sz nu mv : Row}  : Cm l yX13_snowAll (ws_ yX13_snowAll cX13_snowAll 3 (some .int)) ({ frames := 0, cells := 0, slots := 0, locals := 0 }) (mF G) [.ref (G.ad 0 0)] (mct G (mpg d kp as bf sc fd tp it ws sz nu mv)) (fun _ : Unit => some (.int (p_sum (fun k => d (20 + k)) 36))) (fun _ => mct G (mpg d kp as bf sc fd tp it ws sz nu mv)) := by
  refine Cm.start (by decide) (Nat.le_of_ble_eq_true rfl) ?_
  intro p e s m below meth c hf hX hC ls hl
  obtain ⟨hx, hb, hr, hml, hown, hts, hlocks⟩ := hf
  have hl : lv_has ls 3 [(0, .ref (G.ad 0 0))] := hl
  have hown : s.vm.findClass "OwlEarsModel" = some m.cls := hown
  refine lv_iconst (v := 0) hx hb dX13_snowAll_0 rfl ?_
  refine lv_istore_n (lv' := [(1, .int 0), (0, .ref (G.ad 0 0))]) hx hb dX13_snowAll_1 rfl hl (by decide) rfl (fun ls hl => ?_)
  refine lv_iconst (v := 0) hx hb dX13_snowAll_2 rfl ?_
  refine lv_istore_n (lv' := [(2, .int 0), (1, .int 0), (0, .ref (G.ad 0 0))]) hx hb dX13_snowAll_3 rfl hl (by decide) rfl (fun ls hl => ?_)
  have L_1 : ∀ (k1 i1 : Nat), i1 + k1 = 36 → ∀ (H : Heap) (locs : List Loc), fC (mF G) (mct G (mpg d kp as bf sc fd tp it ws sz nu mv)) s.heap H locs → ∀ ls : Array Slot, lv_has ls 3 [(2, .int (nI i1)), (1, .int (p_sum (fun k => d (20 + k)) i1)), (0, .ref (G.ad 0 0))] → WG p l e ({ frames := 0, cells := 0, slots := 0, locals := 0 }) s m (([.ref (G.ad 0 0)] : List Value).toArray) below meth c H locs (mF G) (fun _ : Unit => some (.int (p_sum (fun k => d (20 + k)) 36))) (fun _ => mct G (mpg d kp as bf sc fd tp it ws sz nu mv)) (F0 m 4 ls []) := by
    intro k1
    induction k1 with
    | zero =>
      intro i1 hi1 H locs hC ls hl
      obtain rfl : i1 = 36 := by omega
      refine lv_iload_n hx hb dX13_snowAll_4 rfl (lv_at hl 0 rfl) ?_
      refine lv_bipush (v := 36) hx hb dX13_snowAll_5 rfl ?_
      refine fj_ge (tgt := 28) hx hb dX13_snowAll_7 (by decide) (fun _ => ?_) (fun z_2 => absurd z_2 (nlt_ix (n := 36)))
      refine lv_iload_n hx hb dX13_snowAll_28 rfl (lv_at hl 1 rfl) ?_
      exact fr_i hx hb hr hlocks hX hC () rfl rfl dX13_snowAll_29
    | succ k1 ih1 =>
      intro i1 hi1 H locs hC ls hl
      refine lv_iload_n hx hb dX13_snowAll_4 rfl (lv_at hl 0 rfl) ?_
      refine lv_bipush (v := 36) hx hb dX13_snowAll_5 rfl ?_
      refine fj_ge (tgt := 28) hx hb dX13_snowAll_7 (by decide) (fun z_3 => absurd (lt_ix (n := 36) (show i1 < 36 by omega)) z_3) (fun _ => ?_)
      refine lv_iload_n hx hb dX13_snowAll_10 rfl (lv_at hl 1 rfl) ?_
      refine lv_aload_n hx hb dX13_snowAll_11 rfl (lv_at hl 2 rfl) ?_
      refine fg_get (C := RX13) (T := TX13) (N := 24) (ci := 0) (g := 0) (i := 0) (v := .ref (G.ad 0 1)) hx hb hown hts hX hC in_X13 rfl (min_ (by decide)) rfl 0 (by decide) q1310 (fun _ h => h) rfl dX13_snowAll_12 ?_
      refine lv_bipush (v := 20) hx hb dX13_snowAll_15 rfl ?_
      refine lv_iload_n hx hb dX13_snowAll_17 rfl (lv_at hl 0 rfl) ?_
      refine lv_iadd hx hb dX13_snowAll_18 ?_
      refine fg_iald (g := 0) (i := 1) (t0 := 0) (v := d (20 + i1)) hx hb hX hC (min_ (by decide)) rfl rfl (vinp 20 (show vp_in (nI i1) 104 from vp_in_nI (show i1 < 104 by omega) (by decide)) (by decide) (by decide)) (congrArg d ((congrArg ix (nI_add 20 i1)).trans (nI_clamp (by omega)))) dX13_snowAll_19 ?_
      refine lv_iadd hx hb dX13_snowAll_20 ?_
      refine lv_istore_n (lv' := [(1, .int ((p_sum (fun k => d (20 + k)) i1) + (d (20 + i1)))), (2, .int (nI i1)), (0, .ref (G.ad 0 0))]) hx hb dX13_snowAll_21 rfl hl (by decide) rfl (fun ls hl => ?_)
      refine lv_iinc (v := nI (i1 + 1)) (lv' := [(2, .int (nI (i1 + 1))), (1, .int ((p_sum (fun k => d (20 + k)) i1) + (d (20 + i1)))), (0, .ref (G.ad 0 0))]) hx hb dX13_snowAll_22 hl (k := 1) rfl (nI_1 _) (by decide) rfl (fun ls hl => ?_)
      refine lv_goto (tgt := 4) hx hb dX13_snowAll_25 (by decide) ?_
      exact ih1 (i1 + 1) (by omega) _ _ hC ls (lv_sub hl [0, 1, 2] rfl)
  exact L_1 36 0 (by omega) _ _ hC ls (lv_sub hl [0, 1, 2] rfl)
set_option maxRecDepth 100000 in
theorem m_X13_now {l : Launch} {G : Gm} {d kp as bf sc fd tp it ws sz nu mv : Row} (hw : WF d) (what : Int32) : Cm l yX13_now (ws_ yX13_now cX13_now 2 (some .int)) ({ frames := 6, cells := 0, slots := 0, locals := 130 }) (mF G) [.ref (G.ad 0 0), .int what] (mct G (mpg d kp as bf sc fd tp it ws sz nu mv)) (fun u : Row => some (.int ((s_now d fd what).1))) (fun u => mct G (mpg d kp as u sc ((s_now d fd what).2) tp it ws sz nu mv)) := by
  refine Cm.start (by decide) (Nat.le_of_ble_eq_true rfl) ?_
  intro p e s m below meth c hf hX hC ls hl
  obtain ⟨hx, hb, hr, hml, hown, hts, hlocks⟩ := hf
  have hl : lv_has ls 2 [(0, .ref (G.ad 0 0)), (1, .int what)] := hl
  have hown : s.vm.findClass "OwlEarsModel" = some m.cls := hown
  refine lv_iload_n hx hb dX13_now_0 rfl (lv_at hl 1 rfl) ?_
  by_cases c_1 : what = 0
  · refine lv_tableIn (off := 39) (tgt := 40) hx hb dX13_now_1 (by rw [c_1]; decide) (by rw [c_1]; decide) (by rw [c_1]; rfl) (by decide) ?_
    refine lv_aload_n hx hb dX13_now_40 rfl (lv_at hl 0 rfl) ?_
    refine fg_get (C := RX13) (T := TX13) (N := 24) (ci := 0) (g := 0) (i := 0) (v := .ref (G.ad 0 1)) hx hb hown hts hX hC in_X13 rfl (min_ (by decide)) rfl 0 (by decide) q1310 (fun _ h => h) rfl dX13_now_41 ?_
    refine lv_iconst (v := 0) hx hb dX13_now_44 rfl ?_
    refine fg_iald (g := 0) (i := 1) (t0 := 0) (v := d 0) hx hb hX hC (min_ (by decide)) rfl rfl (vin_b rfl) rfl dX13_now_45 ?_
    have hs : s_now d fd what = ((d 0, fd) : Int32 × Row) := by first | grind [s_now, b2i] | rfl
    exact fr_i hx hb hr hlocks hX hC bf (congrArg (fun z => some (Value.int z)) (t2_1 hs)) (congrArg (fun z => mct G (mpg d kp as bf sc z tp it ws sz nu mv)) (t2_2 hs)).symm dX13_now_46
  by_cases c_2 : what = 1
  · refine lv_tableIn (off := 46) (tgt := 47) hx hb dX13_now_1 (by rw [c_2]; decide) (by rw [c_2]; decide) (by rw [c_2]; rfl) (by decide) ?_
    refine lv_aload_n hx hb dX13_now_47 rfl (lv_at hl 0 rfl) ?_
    refine fc_V (As := []) (rest := []) hx hb hml hown hts hX hC (m_X13_hears hw) (lw_V q1535 q1537 qs72 q124 q1538) hdV_X13_hears ⟨rfl, rfl⟩ ⟨Nat.le_of_ble_eq_true rfl, Nat.le_of_ble_eq_true rfl⟩ (fx_recv (g := 0) (i := 0) (ci := 0) (q := (RX13, TX13, 24)) hX hC (min_ (by decide)) rfl rfl) hl.1 rfl (Nat.le_of_ble_eq_true rfl) ⟨Nat.zero_le _, Nat.zero_le _⟩ dX13_now_48 (fun _ H locs hC => ?_)
    refine W.eq (g2 := F0 m 51 ls [.int (b2i (p_hears d))]) rfl ?_
    refine fb_eq (tgt := 58) hx hb dX13_now_51 (by decide) (fun c_4 => ?_) (fun c_4 => ?_)
    · refine lv_iconst (v := 0) hx hb dX13_now_58 rfl ?_
      have hs : s_now d fd what = ((0, fd) : Int32 × Row) := by first | grind [s_now, b2i] | rfl
      exact fr_i hx hb hr hlocks hX hC bf (congrArg (fun z => some (Value.int z)) (t2_1 hs)) (congrArg (fun z => mct G (mpg d kp as bf sc z tp it ws sz nu mv)) (t2_2 hs)).symm dX13_now_59
    · refine lv_iconst (v := 1) hx hb dX13_now_54 rfl ?_
      refine lv_goto (tgt := 59) hx hb dX13_now_55 (by decide) ?_
      have hs : s_now d fd what = ((1, fd) : Int32 × Row) := by first | grind [s_now, b2i] | rfl
      exact fr_i hx hb hr hlocks hX hC bf (congrArg (fun z => some (Value.int z)) (t2_1 hs)) (congrArg (fun z => mct G (mpg d kp as bf sc z tp it ws sz nu mv)) (t2_2 hs)).symm dX13_now_59
  by_cases c_5 : what = 2
  · refine lv_tableIn (off := 59) (tgt := 60) hx hb dX13_now_1 (by rw [c_5]; decide) (by rw [c_5]; decide) (by rw [c_5]; rfl) (by decide) ?_
    refine lv_aload_n hx hb dX13_now_60 rfl (lv_at hl 0 rfl) ?_
    refine fc_V (As := []) (rest := []) hx hb hml hown hts hX hC (m_X13_having hw) (lw_V q1554 q1556 qs76 q124 q1557) hdV_X13_having ⟨rfl, rfl⟩ ⟨Nat.le_of_ble_eq_true rfl, Nat.le_of_ble_eq_true rfl⟩ (fx_recv (g := 0) (i := 0) (ci := 0) (q := (RX13, TX13, 24)) hX hC (min_ (by decide)) rfl rfl) hl.1 rfl (Nat.le_of_ble_eq_true rfl) ⟨Nat.zero_le _, Nat.zero_le _⟩ dX13_now_61 (fun u_6 H locs hC => ?_)
    refine W.eq (g2 := F0 m 64 ls [.int (p_having d)]) rfl ?_
    have hs : s_now d fd what = ((p_having d, fd) : Int32 × Row) := by first | grind [s_now, b2i] | rfl
    exact fr_i hx hb hr hlocks hX hC u_6 (congrArg (fun z => some (Value.int z)) (t2_1 hs)) (congrArg (fun z => mct G (mpg d kp as u_6 sc z tp it ws sz nu mv)) (t2_2 hs)).symm dX13_now_64
  by_cases c_7 : what = 3
  · refine lv_tableIn (off := 64) (tgt := 65) hx hb dX13_now_1 (by rw [c_7]; decide) (by rw [c_7]; decide) (by rw [c_7]; rfl) (by decide) ?_
    refine lv_aload_n hx hb dX13_now_65 rfl (lv_at hl 0 rfl) ?_
    refine fc_V (As := []) (rest := []) hx hb hml hown hts hX hC (m_X13_hadAll hw) (lw_V q1558 q1560 qs77 q124 q1561) hdV_X13_hadAll ⟨rfl, rfl⟩ ⟨Nat.le_of_ble_eq_true rfl, Nat.le_of_ble_eq_true rfl⟩ (fx_recv (g := 0) (i := 0) (ci := 0) (q := (RX13, TX13, 24)) hX hC (min_ (by decide)) rfl rfl) hl.1 rfl (Nat.le_of_ble_eq_true rfl) ⟨Nat.zero_le _, Nat.zero_le _⟩ dX13_now_66 (fun _ H locs hC => ?_)
    refine W.eq (g2 := F0 m 69 ls [.int (p_sum (fun k => d (95 + 4 * k)) (ix (d 1)))]) rfl ?_
    have hs : s_now d fd what = ((p_sum (fun k => d (95 + 4 * k)) (ix (d 1)), fd) : Int32 × Row) := by first | grind [s_now, b2i] | rfl
    exact fr_i hx hb hr hlocks hX hC bf (congrArg (fun z => some (Value.int z)) (t2_1 hs)) (congrArg (fun z => mct G (mpg d kp as bf sc z tp it ws sz nu mv)) (t2_2 hs)).symm dX13_now_69
  by_cases c_9 : what = 4
  · refine lv_tableIn (off := 69) (tgt := 70) hx hb dX13_now_1 (by rw [c_9]; decide) (by rw [c_9]; decide) (by rw [c_9]; rfl) (by decide) ?_
    refine lv_aload_n hx hb dX13_now_70 rfl (lv_at hl 0 rfl) ?_
    refine fc_V (As := []) (rest := []) hx hb hml hown hts hX hC (m_X13_snowAll) (lw_V q1562 q1564 qs78 q124 q1565) hdV_X13_snowAll ⟨rfl, rfl⟩ ⟨Nat.le_of_ble_eq_true rfl, Nat.le_of_ble_eq_true rfl⟩ (fx_recv (g := 0) (i := 0) (ci := 0) (q := (RX13, TX13, 24)) hX hC (min_ (by decide)) rfl rfl) hl.1 rfl (Nat.le_of_ble_eq_true rfl) ⟨Nat.zero_le _, Nat.zero_le _⟩ dX13_now_71 (fun _ H locs hC => ?_)
    refine W.eq (g2 := F0 m 74 ls [.int (p_sum (fun k => d (20 + k)) 36)]) rfl ?_
    have hs : s_now d fd what = ((p_sum (fun k => d (20 + k)) 36, fd) : Int32 × Row) := by first | grind [s_now, b2i] | rfl
    exact fr_i hx hb hr hlocks hX hC bf (congrArg (fun z => some (Value.int z)) (t2_1 hs)) (congrArg (fun z => mct G (mpg d kp as bf sc z tp it ws sz nu mv)) (t2_2 hs)).symm dX13_now_74
  by_cases c_11 : what = 5
  · refine lv_tableIn (off := 74) (tgt := 75) hx hb dX13_now_1 (by rw [c_11]; decide) (by rw [c_11]; decide) (by rw [c_11]; rfl) (by decide) ?_
    refine lv_aload_n hx hb dX13_now_75 rfl (lv_at hl 0 rfl) ?_
    refine fg_get (C := RX13) (T := TX13) (N := 24) (ci := 0) (g := 0) (i := 0) (v := .ref (G.ad 0 1)) hx hb hown hts hX hC in_X13 rfl (min_ (by decide)) rfl 0 (by decide) q1310 (fun _ h => h) rfl dX13_now_76 ?_
    refine lv_bipush (v := 8) hx hb dX13_now_79 rfl ?_
    refine fg_iald (g := 0) (i := 1) (t0 := 0) (v := d 8) hx hb hX hC (min_ (by decide)) rfl rfl (vin_b rfl) rfl dX13_now_81 ?_
    refine lv_aload_n hx hb dX13_now_82 rfl (lv_at hl 0 rfl) ?_
    refine fg_get (C := RX13) (T := TX13) (N := 24) (ci := 0) (g := 0) (i := 0) (v := .ref (G.ad 0 1)) hx hb hown hts hX hC in_X13 rfl (min_ (by decide)) rfl 0 (by decide) q1310 (fun _ h => h) rfl dX13_now_83 ?_
    refine lv_iconst (v := 3) hx hb dX13_now_86 rfl ?_
    refine fg_iald (g := 0) (i := 1) (t0 := 0) (v := d 3) hx hb hX hC (min_ (by decide)) rfl rfl (vin_b rfl) rfl dX13_now_87 ?_
    refine fc_S (As := [.int (d 8), .int (d 3)]) (rest := []) hx hb hml hown hts hX hC (m_X13_apart (d 8) (d 3)) (lw_S q1425 q1426 q124 q1427) hdS_X13_apart ⟨rfl, rfl⟩ ⟨Nat.le_of_ble_eq_true rfl, Nat.le_of_ble_eq_true rfl⟩ hl.1 rfl (Nat.le_of_ble_eq_true rfl) ⟨Nat.zero_le _, Nat.zero_le _⟩ dX13_now_88 (fun _ H locs hC => ?_)
    refine W.eq (g2 := F0 m 91 ls [.int (p_apart (d 8) (d 3))]) rfl ?_
    have hs : s_now d fd what = ((p_apart (d 8) (d 3), fd) : Int32 × Row) := by first | grind [s_now, b2i] | rfl
    exact fr_i hx hb hr hlocks hX hC bf (congrArg (fun z => some (Value.int z)) (t2_1 hs)) (congrArg (fun z => mct G (mpg d kp as bf sc z tp it ws sz nu mv)) (t2_2 hs)).symm dX13_now_91
  refine lv_tableOut (tgt := 92) hx hb dX13_now_1 (tabo 0 6 (by decide) (fun k hk => match k, hk with | 0, _ => c_1 | 1, _ => c_2 | 2, _ => c_5 | 3, _ => c_7 | 4, _ => c_9 | 5, _ => c_11) rfl) (by decide) ?_
  refine lv_aload_n hx hb dX13_now_92 rfl (lv_at hl 0 rfl) ?_
  refine lv_ldc (v := (-1000001)) hx hb hown (hts _ q1403) dX13_now_93 ?_
  refine fc_V (As := [.int (-1000001)]) (rest := []) hx hb hml hown hts hX hC (m_X13_finding 0 (vin_b rfl)) (lw_V q1404 q1406 qs56 q124 q1407) hdV_X13_finding ⟨rfl, rfl⟩ ⟨Nat.le_of_ble_eq_true rfl, Nat.le_of_ble_eq_true rfl⟩ (fx_recv (g := 0) (i := 0) (ci := 0) (q := (RX13, TX13, 24)) hX hC (min_ (by decide)) rfl rfl) hl.1 rfl (Nat.le_of_ble_eq_true rfl) ⟨Nat.zero_le _, Nat.zero_le _⟩ dX13_now_95 (fun _ H locs hC => ?_)
  refine W.eq (g2 := F0 m 98 ls [.int (-1000001)]) rfl ?_
  have hs : s_now d fd what = (((-1000001), p_find fd 0) : Int32 × Row) := by first | grind [s_now, b2i] | rfl
  exact fr_i hx hb hr hlocks hX hC bf (congrArg (fun z => some (Value.int z)) (t2_1 hs)) (congrArg (fun z => mct G (mpg d kp as bf sc z tp it ws sz nu mv)) (t2_2 hs)).symm dX13_now_98
set_option maxRecDepth 100000 in
theorem m_X13_ear {l : Launch} {G : Gm} {d kp as bf sc fd tp it ws sz nu mv : Row} (hw : WF d) (what : Int32) : Cm l yX13_ear (ws_ yX13_ear cX13_ear 2 (some .int)) ({ frames := 4, cells := 0, slots := 0, locals := 81 }) (mF G) [.ref (G.ad 0 0), .int what] (mct G (mpg d kp as bf sc fd tp it ws sz nu mv)) (fun _ : Unit => some (.int ((s_ear d fd what).1))) (fun _ => mct G (mpg d kp as bf sc ((s_ear d fd what).2) tp it ws sz nu mv)) := by
  refine Cm.start (by decide) (Nat.le_of_ble_eq_true rfl) ?_
  intro p e s m below meth c hf hX hC ls hl
  obtain ⟨hx, hb, hr, hml, hown, hts, hlocks⟩ := hf
  have hl : lv_has ls 2 [(0, .ref (G.ad 0 0)), (1, .int what)] := hl
  have hown : s.vm.findClass "OwlEarsModel" = some m.cls := hown
  refine lv_iload_n hx hb dX13_ear_0 rfl (lv_at hl 1 rfl) ?_
  refine lv_iconst (v := 0) hx hb dX13_ear_1 rfl ?_
  refine lv_iconst (v := 1) hx hb dX13_ear_2 rfl ?_
  refine fc_S (As := [.int what, .int 0, .int 1]) (rest := []) hx hb hml hown hts hX hC (m_X13_within what 0 1) (lw_S q1390 q1391 q124 q1392) hdS_X13_within ⟨rfl, rfl⟩ ⟨Nat.le_of_ble_eq_true rfl, Nat.le_of_ble_eq_true rfl⟩ hl.1 rfl (Nat.le_of_ble_eq_true rfl) ⟨Nat.zero_le _, Nat.zero_le _⟩ dX13_ear_3 (fun _ H locs hC => ?_)
  refine W.eq (g2 := F0 m 6 ls [.int (b2i (p_in what 0 1))]) rfl ?_
  refine fb_ne (tgt := 16) hx hb dX13_ear_6 (by decide) (fun c_2 => ?_) (fun c_2 => ?_)
  · refine lv_aload_n hx hb dX13_ear_16 rfl (lv_at hl 0 rfl) ?_
    refine fc_V (As := []) (rest := []) hx hb hml hown hts hX hC (m_X13_hears hw) (lw_V q1535 q1537 qs72 q124 q1538) hdV_X13_hears ⟨rfl, rfl⟩ ⟨Nat.le_of_ble_eq_true rfl, Nat.le_of_ble_eq_true rfl⟩ (fx_recv (g := 0) (i := 0) (ci := 0) (q := (RX13, TX13, 24)) hX hC (min_ (by decide)) rfl rfl) hl.1 rfl (Nat.le_of_ble_eq_true rfl) ⟨Nat.zero_le _, Nat.zero_le _⟩ dX13_ear_17 (fun _ H locs hC => ?_)
    refine W.eq (g2 := F0 m 20 ls [.int (b2i (p_hears d))]) rfl ?_
    refine fb_ne (tgt := 32) hx hb dX13_ear_20 (by decide) (fun c_4 => ?_) (fun c_4 => ?_)
    · refine lv_iload_n hx hb dX13_ear_32 rfl (lv_at hl 1 rfl) ?_
      refine lv_if_ne (tgt := 43) hx hb dX13_ear_33 (by decide) (fun c_5 => ?_) (fun c_5 => ?_)
      · refine lv_aload_n hx hb dX13_ear_43 rfl (lv_at hl 0 rfl) ?_
        refine fc_V (As := []) (rest := []) hx hb hml hown hts hX hC (m_X13_high) (lw_V q1543 q1545 qs74 q124 q1546) hdV_X13_high ⟨rfl, rfl⟩ ⟨Nat.le_of_ble_eq_true rfl, Nat.le_of_ble_eq_true rfl⟩ (fx_recv (g := 0) (i := 0) (ci := 0) (q := (RX13, TX13, 24)) hX hC (min_ (by decide)) rfl rfl) hl.1 rfl (Nat.le_of_ble_eq_true rfl) ⟨Nat.zero_le _, Nat.zero_le _⟩ dX13_ear_44 (fun _ H locs hC => ?_)
        refine W.eq (g2 := F0 m 47 ls [.int (p_high d)]) rfl ?_
        have hs : s_ear d fd what = ((p_high d, fd) : Int32 × Row) := by first | grind [s_ear] | rfl
        exact fr_i hx hb hr hlocks hX hC () (congrArg (fun z => some (Value.int z)) (t2_1 hs)) (congrArg (fun z => mct G (mpg d kp as bf sc z tp it ws sz nu mv)) (t2_2 hs)).symm dX13_ear_47
      · refine lv_aload_n hx hb dX13_ear_36 rfl (lv_at hl 0 rfl) ?_
        refine fc_V (As := []) (rest := []) hx hb hml hown hts hX hC (m_X13_side) (lw_V q1550 q1552 qs75 q124 q1553) hdV_X13_side ⟨rfl, rfl⟩ ⟨Nat.le_of_ble_eq_true rfl, Nat.le_of_ble_eq_true rfl⟩ (fx_recv (g := 0) (i := 0) (ci := 0) (q := (RX13, TX13, 24)) hX hC (min_ (by decide)) rfl rfl) hl.1 rfl (Nat.le_of_ble_eq_true rfl) ⟨Nat.zero_le _, Nat.zero_le _⟩ dX13_ear_37 (fun _ H locs hC => ?_)
        refine W.eq (g2 := F0 m 40 ls [.int (p_side d)]) rfl ?_
        refine lv_goto (tgt := 47) hx hb dX13_ear_40 (by decide) ?_
        have hs : s_ear d fd what = ((p_side d, fd) : Int32 × Row) := by first | grind [s_ear] | rfl
        exact fr_i hx hb hr hlocks hX hC () (congrArg (fun z => some (Value.int z)) (t2_1 hs)) (congrArg (fun z => mct G (mpg d kp as bf sc z tp it ws sz nu mv)) (t2_2 hs)).symm dX13_ear_47
    · refine lv_aload_n hx hb dX13_ear_23 rfl (lv_at hl 0 rfl) ?_
      refine lv_ldc (v := (-1000004)) hx hb hown (hts _ q1570) dX13_ear_24 ?_
      refine fc_V (As := [.int (-1000004)]) (rest := []) hx hb hml hown hts hX hC (m_X13_finding 3 (vin_b rfl)) (lw_V q1404 q1406 qs56 q124 q1407) hdV_X13_finding ⟨rfl, rfl⟩ ⟨Nat.le_of_ble_eq_true rfl, Nat.le_of_ble_eq_true rfl⟩ (fx_recv (g := 0) (i := 0) (ci := 0) (q := (RX13, TX13, 24)) hX hC (min_ (by decide)) rfl rfl) hl.1 rfl (Nat.le_of_ble_eq_true rfl) ⟨Nat.zero_le _, Nat.zero_le _⟩ dX13_ear_26 (fun _ H locs hC => ?_)
      refine W.eq (g2 := F0 m 29 ls [.int (-1000004)]) rfl ?_
      refine lv_goto (tgt := 47) hx hb dX13_ear_29 (by decide) ?_
      have hs : s_ear d fd what = (((-1000004), p_find fd 3) : Int32 × Row) := by first | grind [s_ear] | rfl
      exact fr_i hx hb hr hlocks hX hC () (congrArg (fun z => some (Value.int z)) (t2_1 hs)) (congrArg (fun z => mct G (mpg d kp as bf sc z tp it ws sz nu mv)) (t2_2 hs)).symm dX13_ear_47
  · refine lv_aload_n hx hb dX13_ear_9 rfl (lv_at hl 0 rfl) ?_
    refine lv_ldc (v := (-1000001)) hx hb hown (hts _ q1403) dX13_ear_10 ?_
    refine fc_V (As := [.int (-1000001)]) (rest := []) hx hb hml hown hts hX hC (m_X13_finding 0 (vin_b rfl)) (lw_V q1404 q1406 qs56 q124 q1407) hdV_X13_finding ⟨rfl, rfl⟩ ⟨Nat.le_of_ble_eq_true rfl, Nat.le_of_ble_eq_true rfl⟩ (fx_recv (g := 0) (i := 0) (ci := 0) (q := (RX13, TX13, 24)) hX hC (min_ (by decide)) rfl rfl) hl.1 rfl (Nat.le_of_ble_eq_true rfl) ⟨Nat.zero_le _, Nat.zero_le _⟩ dX13_ear_12 (fun _ H locs hC => ?_)
    refine W.eq (g2 := F0 m 15 ls [.int (-1000001)]) rfl ?_
    have hs : s_ear d fd what = (((-1000001), p_find fd 0) : Int32 × Row) := by first | grind [s_ear] | rfl
    exact fr_i hx hb hr hlocks hX hC () (congrArg (fun z => some (Value.int z)) (t2_1 hs)) (congrArg (fun z => mct G (mpg d kp as bf sc z tp it ws sz nu mv)) (t2_2 hs)).symm dX13_ear_15
set_option maxRecDepth 100000 in
theorem m_X13_where {l : Launch} {G : Gm} {d kp as bf sc fd tp it ws sz nu mv : Row} (hw : WF d) (n : Int32) : Cm l yX13_where (ws_ yX13_where cX13_where 2 (some .int)) ({ frames := 3, cells := 0, slots := 0, locals := 64 }) (mF G) [.ref (G.ad 0 0), .int n] (mct G (mpg d kp as bf sc fd tp it ws sz nu mv)) (fun u : Row => some (.int ((s_where d fd n).1))) (fun u => mct G (mpg d kp u bf sc ((s_where d fd n).2) tp it ws sz nu mv)) := by
  refine Cm.start (by decide) (Nat.le_of_ble_eq_true rfl) ?_
  intro p e s m below meth c hf hX hC ls hl
  obtain ⟨hx, hb, hr, hml, hown, hts, hlocks⟩ := hf
  have hl : lv_has ls 2 [(0, .ref (G.ad 0 0)), (1, .int n)] := hl
  have hown : s.vm.findClass "OwlEarsModel" = some m.cls := hown
  refine lv_iload_n hx hb dX13_where_0 rfl (lv_at hl 1 rfl) ?_
  refine fc_S (As := [.int n]) (rest := []) hx hb hml hown hts hX hC (m_X13_isAheadBy n) (lw_S q1575 q1576 q124 q1577) hdS_X13_isAheadBy ⟨rfl, rfl⟩ ⟨Nat.le_of_ble_eq_true rfl, Nat.le_of_ble_eq_true rfl⟩ hl.1 rfl (Nat.le_of_ble_eq_true rfl) ⟨Nat.zero_le _, Nat.zero_le _⟩ dX13_where_1 (fun _ H locs hC => ?_)
  refine W.eq (g2 := F0 m 4 ls [.int (b2i (p_in n 0 200))]) rfl ?_
  refine fb_ne (tgt := 14) hx hb dX13_where_4 (by decide) (fun c_2 => ?_) (fun c_2 => ?_)
  · refine lv_aload_n hx hb dX13_where_14 rfl (lv_at hl 0 rfl) ?_
    refine fg_get (C := RX13) (T := TX13) (N := 24) (ci := 0) (g := 0) (i := 0) (v := .ref (G.ad 0 1)) hx hb hown hts hX hC in_X13 rfl (min_ (by decide)) rfl 0 (by decide) q1310 (fun _ h => h) rfl dX13_where_15 ?_
    refine lv_aload_n hx hb dX13_where_18 rfl (lv_at hl 0 rfl) ?_
    refine fg_get (C := RX13) (T := TX13) (N := 24) (ci := 0) (g := 0) (i := 0) (v := .ref (G.ad 0 3)) hx hb hown hts hX hC in_X13 rfl (min_ (by decide)) rfl 2 (by decide) q1312 (fun _ h => h) rfl dX13_where_19 ?_
    refine fc_S (As := [.ref (G.ad 0 1), .ref (G.ad 0 3)]) (rest := []) hx hb hml hown hts hX hC (m_X13_copyRow (g1 := 0) (i1 := 1) (g2 := 0) (i2 := 3) (t0 := 0) (ctn := mct G (mpg d kp d bf sc fd tp it ws sz nu mv)) (min_ (by decide)) rfl (min_ (by decide)) rfl rfl (by decide) (mu mp3 (fun _ _ h => h))) (lw_S q1491 q1492 q124 q1493) hdS_X13_copyRow ⟨rfl, rfl⟩ ⟨Nat.le_of_ble_eq_true rfl, Nat.le_of_ble_eq_true rfl⟩ hl.1 rfl (Nat.le_of_ble_eq_true rfl) ⟨Nat.zero_le _, Nat.zero_le _⟩ dX13_where_22 (fun _ H locs hC => ?_)
    refine W.eq (g2 := F0 m 25 ls []) rfl ?_
    refine lv_aload_n hx hb dX13_where_25 rfl (lv_at hl 0 rfl) ?_
    refine lv_iload_n hx hb dX13_where_26 rfl (lv_at hl 1 rfl) ?_
    refine fc_V (As := [.int n]) (rest := []) hx hb hml hown hts hX hC (m_X13_ticks hw n) (lw_V q1494 q1496 qs68 q124 q1497) hdV_X13_ticks ⟨rfl, rfl⟩ ⟨Nat.le_of_ble_eq_true rfl, Nat.le_of_ble_eq_true rfl⟩ (fx_recv (g := 0) (i := 0) (ci := 0) (q := (RX13, TX13, 24)) hX hC (min_ (by decide)) rfl rfl) hl.1 rfl (Nat.le_of_ble_eq_true rfl) ⟨Nat.zero_le _, Nat.zero_le _⟩ dX13_where_27 (fun _ H locs hC => ?_)
    refine W.eq (g2 := F0 m 30 ls []) rfl ?_
    refine lv_aload_n hx hb dX13_where_30 rfl (lv_at hl 0 rfl) ?_
    refine lv_aload_n hx hb dX13_where_31 rfl (lv_at hl 0 rfl) ?_
    refine fg_get (C := RX13) (T := TX13) (N := 24) (ci := 0) (g := 0) (i := 0) (v := .ref (G.ad 0 1)) hx hb hown hts hX hC in_X13 rfl (min_ (by decide)) rfl 0 (by decide) q1310 (fun _ h => h) rfl dX13_where_32 ?_
    refine lv_iconst (v := 3) hx hb dX13_where_35 rfl ?_
    refine fg_iald (g := 0) (i := 1) (t0 := 0) (v := (p_ticks (ix n) d) 3) hx hb hX hC (min_ (by decide)) rfl rfl (vin_b rfl) rfl dX13_where_36 ?_
    refine fc_V (As := [.int ((p_ticks (ix n) d) 3)]) (rest := []) hx hb hml hown hts hX hC (m_X13_putBack ((p_ticks (ix n) d) 3)) (lw_V q1578 q1580 qs79 q124 q1581) hdV_X13_putBack ⟨rfl, rfl⟩ ⟨Nat.le_of_ble_eq_true rfl, Nat.le_of_ble_eq_true rfl⟩ (fx_recv (g := 0) (i := 0) (ci := 0) (q := (RX13, TX13, 24)) hX hC (min_ (by decide)) rfl rfl) hl.1 rfl (Nat.le_of_ble_eq_true rfl) ⟨Nat.zero_le _, Nat.zero_le _⟩ dX13_where_37 (fun _ H locs hC => ?_)
    refine W.eq (g2 := F0 m 40 ls [.int ((p_ticks (ix n) d) 3)]) rfl ?_
    have hs : s_where d fd n = ((((p_ticks (ix n) d) 3), fd) : Int32 × Row) := by first | grind [s_where] | rfl
    exact fr_i hx hb hr hlocks hX hC d (congrArg (fun z => some (Value.int z)) (t2_1 hs)) (congrArg (fun z => mct G (mpg d kp d bf sc z tp it ws sz nu mv)) (t2_2 hs)).symm dX13_where_40
  · refine lv_aload_n hx hb dX13_where_7 rfl (lv_at hl 0 rfl) ?_
    refine lv_ldc (v := (-1000001)) hx hb hown (hts _ q1403) dX13_where_8 ?_
    refine fc_V (As := [.int (-1000001)]) (rest := []) hx hb hml hown hts hX hC (m_X13_finding 0 (vin_b rfl)) (lw_V q1404 q1406 qs56 q124 q1407) hdV_X13_finding ⟨rfl, rfl⟩ ⟨Nat.le_of_ble_eq_true rfl, Nat.le_of_ble_eq_true rfl⟩ (fx_recv (g := 0) (i := 0) (ci := 0) (q := (RX13, TX13, 24)) hX hC (min_ (by decide)) rfl rfl) hl.1 rfl (Nat.le_of_ble_eq_true rfl) ⟨Nat.zero_le _, Nat.zero_le _⟩ dX13_where_10 (fun _ H locs hC => ?_)
    refine W.eq (g2 := F0 m 13 ls [.int (-1000001)]) rfl ?_
    have hs : s_where d fd n = (((-1000001), p_find fd 0) : Int32 × Row) := by first | grind [s_where] | rfl
    exact fr_i hx hb hr hlocks hX hC as (congrArg (fun z => some (Value.int z)) (t2_1 hs)) (congrArg (fun z => mct G (mpg d kp as bf sc z tp it ws sz nu mv)) (t2_2 hs)).symm dX13_where_13
