theorem hdS_X0_isCell : yX0_isCell.cls ≠ "java/lang/invoke/MethodHandle" ∧ yX0_isCell.cls ≠ "java/lang/invoke/VarHandle" ∧ (parseMethodDescriptor yX0_isCell.desc).map (fun d => d.parameters.length) = some 1 := by decide +kernel
theorem hdS_X0_isHeading : yX0_isHeading.cls ≠ "java/lang/invoke/MethodHandle" ∧ yX0_isHeading.cls ≠ "java/lang/invoke/VarHandle" ∧ (parseMethodDescriptor yX0_isHeading.desc).map (fun d => d.parameters.length) = some 1 := by decide +kernel
theorem hdV_X0_isOfMouse : yX0_isOfMouse.cls = RX0 ∧ yX0_isOfMouse.cls ≠ "java/lang/invoke/MethodHandle" ∧ yX0_isOfMouse.cls ≠ "java/lang/invoke/VarHandle" ∧ (parseMethodDescriptor yX0_isOfMouse.desc).map (fun d => d.parameters.length) = some 2 := by decide +kernel
theorem hdS_X0_isKind : yX0_isKind.cls ≠ "java/lang/invoke/MethodHandle" ∧ yX0_isKind.cls ≠ "java/lang/invoke/VarHandle" ∧ (parseMethodDescriptor yX0_isKind.desc).map (fun d => d.parameters.length) = some 1 := by decide +kernel
theorem hdV_X4_add : yX4_add.cls = RX4 ∧ yX4_add.cls ≠ "java/lang/invoke/MethodHandle" ∧ yX4_add.cls ≠ "java/lang/invoke/VarHandle" ∧ (parseMethodDescriptor yX4_add.desc).map (fun d => d.parameters.length) = some 2 := by decide +kernel
set_option maxRecDepth 100000 in
theorem m_X0_cell {l : Launch} {G : Gc} {d kp as un to sc fd tp sh : Row} {sp : Nat → Option Nat} (hw : WF d) (c0 what v : Int32) : Cm l yX0_cell (ws_ yX0_cell cX0_cell 6 (some .int)) ({ frames := 2, cells := 0, slots := 0, locals := 42 }) (cF G) [.ref (G.ad 5 0), .int c0, .int what, .int v] (cct G (pg d kp as un to sc fd tp sh) sp) (fun _ : Unit => some (.int ((s_cell d fd c0 what v).1))) (fun _ => cct G (pg ((s_cell d fd c0 what v).2.1) kp as un to sc ((s_cell d fd c0 what v).2.2) tp sh) sp) := by
  refine Cm.start (by decide) (Nat.le_of_ble_eq_true rfl) ?_
  intro p e s m below meth c hf hX hC ls hl
  obtain ⟨hx, hb, hr, hml, hown, hts, hlocks⟩ := hf
  have hl : lv_has ls 6 [(0, .ref (G.ad 5 0)), (1, .int c0), (2, .int what), (3, .int v)] := hl
  have hown : s.vm.findClass "OwlEars" = some m.cls := hown
  refine lv_iload_n hx hb dX0_cell_0 rfl (lv_at hl 1 rfl) ?_
  refine fc_S (As := [.int c0]) (rest := []) hx hb hml hown hts hX hC (m_X0_isCell c0) (lw_S q466 q467 q108 q468) hdS_X0_isCell ⟨rfl, rfl⟩ ⟨Nat.le_of_ble_eq_true rfl, Nat.le_of_ble_eq_true rfl⟩ hl.1 rfl (Nat.le_of_ble_eq_true rfl) ⟨Nat.zero_le _, Nat.zero_le _⟩ dX0_cell_1 (fun _ H locs hC => ?_)
  refine W.eq (g2 := F0 m 4 ls [.int (b2i (p_in c0 0 35))]) rfl ?_
  refine fb_eq (tgt := 35) hx hb dX0_cell_4 (by decide) (fun c_2 => ?_) (fun c_2 => ?_)
  · refine lv_aload_n hx hb dX0_cell_35 rfl (lv_at hl 0 rfl) ?_
    refine lv_iconst (v := 0) hx hb dX0_cell_36 rfl ?_
    refine fc_V (As := [.int 0]) (rest := []) hx hb hml hown hts hX hC (m_X0_finding 0 (vin_b rfl)) (lw_V q472 q474 qs2 q108 q475) hdV_X0_finding ⟨rfl, rfl⟩ ⟨Nat.le_of_ble_eq_true rfl, Nat.le_of_ble_eq_true rfl⟩ (fx_recv (g := 5) (i := 0) (ci := 1) (q := (RX0, TX0, 13)) hX hC (cin rfl) rfl rfl) hl.1 rfl (Nat.le_of_ble_eq_true rfl) ⟨Nat.zero_le _, Nat.zero_le _⟩ dX0_cell_37 (fun _ H locs hC => ?_)
    refine W.eq (g2 := F0 m 40 ls [.int (-1000001)]) rfl ?_
    have hs : s_cell d fd c0 what v = (((-1000001), d, p_find fd 0) : Int32 × Row × Row) := by first | grind [s_cell] | rfl
    exact fr_i hx hb hr hlocks hX hC () (congrArg (fun z => some (Value.int z)) (t3_1 hs)) ((congrArg (fun z => cct G (pg z kp as un to sc ((s_cell d fd c0 what v).2.2) tp sh) sp) (t3_2 hs)).trans (congrArg (fun z => cct G (pg d kp as un to sc z tp sh) sp) (t3_3 hs))).symm dX0_cell_40
  · refine lv_iload_n hx hb dX0_cell_7 rfl (lv_at hl 2 rfl) ?_
    refine lv_iconst (v := 0) hx hb dX0_cell_8 rfl ?_
    refine lv_iconst (v := 1) hx hb dX0_cell_9 rfl ?_
    refine fc_S (As := [.int what, .int 0, .int 1]) (rest := []) hx hb hml hown hts hX hC (m_X0_in what 0 1) (lw_S q469 q470 q108 q471) hdS_X0_in ⟨rfl, rfl⟩ ⟨Nat.le_of_ble_eq_true rfl, Nat.le_of_ble_eq_true rfl⟩ hl.1 rfl (Nat.le_of_ble_eq_true rfl) ⟨Nat.zero_le _, Nat.zero_le _⟩ dX0_cell_10 (fun _ H locs hC => ?_)
    refine W.eq (g2 := F0 m 13 ls [.int (b2i (p_in what 0 1))]) rfl ?_
    refine fb_eq (tgt := 35) hx hb dX0_cell_13 (by decide) (fun c_5 => ?_) (fun c_5 => ?_)
    · refine lv_aload_n hx hb dX0_cell_35 rfl (lv_at hl 0 rfl) ?_
      refine lv_iconst (v := 0) hx hb dX0_cell_36 rfl ?_
      refine fc_V (As := [.int 0]) (rest := []) hx hb hml hown hts hX hC (m_X0_finding 0 (vin_b rfl)) (lw_V q472 q474 qs2 q108 q475) hdV_X0_finding ⟨rfl, rfl⟩ ⟨Nat.le_of_ble_eq_true rfl, Nat.le_of_ble_eq_true rfl⟩ (fx_recv (g := 5) (i := 0) (ci := 1) (q := (RX0, TX0, 13)) hX hC (cin rfl) rfl rfl) hl.1 rfl (Nat.le_of_ble_eq_true rfl) ⟨Nat.zero_le _, Nat.zero_le _⟩ dX0_cell_37 (fun _ H locs hC => ?_)
      refine W.eq (g2 := F0 m 40 ls [.int (-1000001)]) rfl ?_
      have hs : s_cell d fd c0 what v = (((-1000001), d, p_find fd 0) : Int32 × Row × Row) := by first | grind [s_cell] | rfl
      exact fr_i hx hb hr hlocks hX hC () (congrArg (fun z => some (Value.int z)) (t3_1 hs)) ((congrArg (fun z => cct G (pg z kp as un to sc ((s_cell d fd c0 what v).2.2) tp sh) sp) (t3_2 hs)).trans (congrArg (fun z => cct G (pg d kp as un to sc z tp sh) sp) (t3_3 hs))).symm dX0_cell_40
    · refine lv_iload_n hx hb dX0_cell_16 rfl (lv_at hl 3 rfl) ?_
      refine lv_iconst (v := 0) hx hb dX0_cell_17 rfl ?_
      refine lv_iload_n hx hb dX0_cell_18 rfl (lv_at hl 2 rfl) ?_
      refine fw_join (C := what = 0) (a := 30) (b := 99) (pcj := 29) (ls := ls) (rest := [.int 0, .int v]) (fun ja jb => ?_) ?_
      · refine lv_if_ne (tgt := 27) hx hb dX0_cell_19 (by decide) (fun c_7 => ?_) (fun c_7 => ?_)
        · refine lv_bipush (v := 99) hx hb dX0_cell_27 rfl ?_
          exact jb c_7
        · refine lv_bipush (v := 30) hx hb dX0_cell_22 rfl ?_
          refine lv_goto (tgt := 29) hx hb dX0_cell_24 (by decide) ?_
          exact ja c_7
      refine fc_S (As := [.int v, .int 0, .int (if what = 0 then 30 else 99)]) (rest := []) hx hb hml hown hts hX hC (m_X0_in v 0 (if what = 0 then 30 else 99)) (lw_S q469 q470 q108 q471) hdS_X0_in ⟨rfl, rfl⟩ ⟨Nat.le_of_ble_eq_true rfl, Nat.le_of_ble_eq_true rfl⟩ hl.1 rfl (Nat.le_of_ble_eq_true rfl) ⟨Nat.zero_le _, Nat.zero_le _⟩ dX0_cell_29 (fun _ H locs hC => ?_)
      refine W.eq (g2 := F0 m 32 ls [.int (b2i (p_in v 0 (if what = 0 then 30 else 99)))]) rfl ?_
      refine fb_ne (tgt := 41) hx hb dX0_cell_32 (by decide) (fun c_9 => ?_) (fun c_9 => ?_)
      · refine lv_iload_n hx hb dX0_cell_41 rfl (lv_at hl 2 rfl) ?_
        refine lv_if_ne (tgt := 55) hx hb dX0_cell_42 (by decide) (fun c_10 => ?_) (fun c_10 => ?_)
        · refine lv_aload_n hx hb dX0_cell_55 rfl (lv_at hl 0 rfl) ?_
          refine fg_get (C := RX0) (T := TX0) (N := 13) (ci := 1) (g := 5) (i := 0) (v := .ref (G.ad 0 0)) hx hb hown hts hX hC in_X0 rfl (cin rfl) rfl 3 (by decide) q425 (fun _ h => h) rfl dX0_cell_56 ?_
          refine fg_getN (C := RX4) (T := TX4) (N := 9) (ci := 0) (g := 0) (i := 0) (v := .ref (G.ad 0 2)) hx hb hown hts hX hC in_X4 rfl (cin rfl) rfl 1 (by decide) (hX.2.2.1.F q243) (fun _ h => h) rfl dX0_cell_59 ?_
          refine lv_astore (lv' := [(4, .ref (G.ad 0 2)), (0, .ref (G.ad 5 0)), (1, .int c0), (2, .int what), (3, .int v)]) hx hb dX0_cell_62 hl (by decide) rfl (fun ls hl => ?_)
          refine lv_aload hx hb dX0_cell_64 (lv_at hl 0 rfl) ?_
          refine lv_iload_n hx hb dX0_cell_66 rfl (lv_at hl 2 rfl) ?_
          refine fg_iald (g := 0) (i := 2) (t0 := 0) (v := d (56 + ix c0)) hx hb hX hC (cin rfl) rfl rfl (vin_of c_2 36 (by decide)) rfl dX0_cell_67 ?_
          refine lv_istore (lv' := [(5, .int (d (56 + ix c0))), (4, .ref (G.ad 0 2)), (0, .ref (G.ad 5 0)), (1, .int c0), (2, .int what), (3, .int v)]) hx hb dX0_cell_68 hl (by decide) rfl (fun ls hl => ?_)
          refine lv_aload hx hb dX0_cell_70 (lv_at hl 1 rfl) ?_
          refine lv_iload_n hx hb dX0_cell_72 rfl (lv_at hl 3 rfl) ?_
          refine lv_iload_n hx hb dX0_cell_73 rfl (lv_at hl 5 rfl) ?_
          refine fg_iast (g := 0) (i := 2) (t0 := 0) hx hb hX hC (cin rfl) rfl rfl (vin_of c_2 36 (by decide)) (cct G (pg (upd d (56 + ix c0) v) kp as un to sc fd tp sh) sp) (cs_noise (k := ix c0) (vin_lt (vin_of c_2 36 (by decide)))) dX0_cell_74 (fun H locs hC => ?_)
          refine lv_iload hx hb dX0_cell_75 (lv_at hl 0 rfl) ?_
          have hs : s_cell d fd c0 what v = ((d (56 + ix c0), upd d (56 + ix c0) v, fd) : Int32 × Row × Row) := by first | grind [s_cell] | rfl
          exact fr_i hx hb hr hlocks hX hC () (congrArg (fun z => some (Value.int z)) (t3_1 hs)) ((congrArg (fun z => cct G (pg z kp as un to sc ((s_cell d fd c0 what v).2.2) tp sh) sp) (t3_2 hs)).trans (congrArg (fun z => cct G (pg (upd d (56 + ix c0) v) kp as un to sc z tp sh) sp) (t3_3 hs))).symm dX0_cell_77
        · refine lv_aload_n hx hb dX0_cell_45 rfl (lv_at hl 0 rfl) ?_
          refine fg_get (C := RX0) (T := TX0) (N := 13) (ci := 1) (g := 5) (i := 0) (v := .ref (G.ad 0 0)) hx hb hown hts hX hC in_X0 rfl (cin rfl) rfl 3 (by decide) q425 (fun _ h => h) rfl dX0_cell_46 ?_
          refine fg_getN (C := RX4) (T := TX4) (N := 9) (ci := 0) (g := 0) (i := 0) (v := .ref (G.ad 0 1)) hx hb hown hts hX hC in_X4 rfl (cin rfl) rfl 0 (by decide) (hX.2.2.1.F q240) (fun _ h => h) rfl dX0_cell_49 ?_
          refine lv_goto (tgt := 62) hx hb dX0_cell_52 (by decide) ?_
          refine lv_astore (lv' := [(4, .ref (G.ad 0 1)), (0, .ref (G.ad 5 0)), (1, .int c0), (2, .int what), (3, .int v)]) hx hb dX0_cell_62 hl (by decide) rfl (fun ls hl => ?_)
          refine lv_aload hx hb dX0_cell_64 (lv_at hl 0 rfl) ?_
          refine lv_iload_n hx hb dX0_cell_66 rfl (lv_at hl 2 rfl) ?_
          refine fg_iald (g := 0) (i := 1) (t0 := 0) (v := d (20 + ix c0)) hx hb hX hC (cin rfl) rfl rfl (vin_of c_2 36 (by decide)) rfl dX0_cell_67 ?_
          refine lv_istore (lv' := [(5, .int (d (20 + ix c0))), (4, .ref (G.ad 0 1)), (0, .ref (G.ad 5 0)), (1, .int c0), (2, .int what), (3, .int v)]) hx hb dX0_cell_68 hl (by decide) rfl (fun ls hl => ?_)
          refine lv_aload hx hb dX0_cell_70 (lv_at hl 1 rfl) ?_
          refine lv_iload_n hx hb dX0_cell_72 rfl (lv_at hl 3 rfl) ?_
          refine lv_iload_n hx hb dX0_cell_73 rfl (lv_at hl 5 rfl) ?_
          refine fg_iast (g := 0) (i := 1) (t0 := 0) hx hb hX hC (cin rfl) rfl rfl (vin_of c_2 36 (by decide)) (cct G (pg (upd d (20 + ix c0) v) kp as un to sc fd tp sh) sp) (cs_snow (k := ix c0) (vin_lt (vin_of c_2 36 (by decide)))) dX0_cell_74 (fun H locs hC => ?_)
          refine lv_iload hx hb dX0_cell_75 (lv_at hl 0 rfl) ?_
          have hs : s_cell d fd c0 what v = ((d (20 + ix c0), upd d (20 + ix c0) v, fd) : Int32 × Row × Row) := by first | grind [s_cell] | rfl
          exact fr_i hx hb hr hlocks hX hC () (congrArg (fun z => some (Value.int z)) (t3_1 hs)) ((congrArg (fun z => cct G (pg z kp as un to sc ((s_cell d fd c0 what v).2.2) tp sh) sp) (t3_2 hs)).trans (congrArg (fun z => cct G (pg (upd d (20 + ix c0) v) kp as un to sc z tp sh) sp) (t3_3 hs))).symm dX0_cell_77
      · refine lv_aload_n hx hb dX0_cell_35 rfl (lv_at hl 0 rfl) ?_
        refine lv_iconst (v := 0) hx hb dX0_cell_36 rfl ?_
        refine fc_V (As := [.int 0]) (rest := []) hx hb hml hown hts hX hC (m_X0_finding 0 (vin_b rfl)) (lw_V q472 q474 qs2 q108 q475) hdV_X0_finding ⟨rfl, rfl⟩ ⟨Nat.le_of_ble_eq_true rfl, Nat.le_of_ble_eq_true rfl⟩ (fx_recv (g := 5) (i := 0) (ci := 1) (q := (RX0, TX0, 13)) hX hC (cin rfl) rfl rfl) hl.1 rfl (Nat.le_of_ble_eq_true rfl) ⟨Nat.zero_le _, Nat.zero_le _⟩ dX0_cell_37 (fun _ H locs hC => ?_)
        refine W.eq (g2 := F0 m 40 ls [.int (-1000001)]) rfl ?_
        have hs : s_cell d fd c0 what v = (((-1000001), d, p_find fd 0) : Int32 × Row × Row) := by first | grind [s_cell] | rfl
        exact fr_i hx hb hr hlocks hX hC () (congrArg (fun z => some (Value.int z)) (t3_1 hs)) ((congrArg (fun z => cct G (pg z kp as un to sc ((s_cell d fd c0 what v).2.2) tp sh) sp) (t3_2 hs)).trans (congrArg (fun z => cct G (pg d kp as un to sc z tp sh) sp) (t3_3 hs))).symm dX0_cell_40
set_option maxRecDepth 100000 in
theorem m_X0_cellOf {l : Launch} {G : Gc} {d kp as un to sc fd tp sh : Row} {sp : Nat → Option Nat} (hw : WF d) (c0 what : Int32) : Cm l yX0_cellOf (ws_ yX0_cellOf cX0_cellOf 3 (some .int)) ({ frames := 3, cells := 0, slots := 0, locals := 61 }) (cF G) [.ref (G.ad 5 0), .int c0, .int what] (cct G (pg d kp as un to sc fd tp sh) sp) (fun _ : Unit => some (.int ((s_cellOf d fd c0 what).1))) (fun _ => cct G (pg d kp as un to sc ((s_cellOf d fd c0 what).2) tp sh) sp) := by
  refine Cm.start (by decide) (Nat.le_of_ble_eq_true rfl) ?_
  intro p e s m below meth c hf hX hC ls hl
  obtain ⟨hx, hb, hr, hml, hown, hts, hlocks⟩ := hf
  have hl : lv_has ls 3 [(0, .ref (G.ad 5 0)), (1, .int c0), (2, .int what)] := hl
  have hown : s.vm.findClass "OwlEars" = some m.cls := hown
  refine lv_iload_n hx hb dX0_cellOf_0 rfl (lv_at hl 1 rfl) ?_
  refine fc_S (As := [.int c0]) (rest := []) hx hb hml hown hts hX hC (m_X0_isCell c0) (lw_S q466 q467 q108 q468) hdS_X0_isCell ⟨rfl, rfl⟩ ⟨Nat.le_of_ble_eq_true rfl, Nat.le_of_ble_eq_true rfl⟩ hl.1 rfl (Nat.le_of_ble_eq_true rfl) ⟨Nat.zero_le _, Nat.zero_le _⟩ dX0_cellOf_1 (fun _ H locs hC => ?_)
  refine W.eq (g2 := F0 m 4 ls [.int (b2i (p_in c0 0 35))]) rfl ?_
  refine fb_ne (tgt := 13) hx hb dX0_cellOf_4 (by decide) (fun c_2 => ?_) (fun c_2 => ?_)
  · refine lv_iload_n hx hb dX0_cellOf_13 rfl (lv_at hl 2 rfl) ?_
    by_cases c_3 : what = 0
    · refine lv_tableIn (off := 26) (tgt := 40) hx hb dX0_cellOf_14 (by rw [c_3]; decide) (by rw [c_3]; decide) (by rw [c_3]; rfl) (by decide) ?_
      refine lv_aload_n hx hb dX0_cellOf_40 rfl (lv_at hl 0 rfl) ?_
      refine fg_get (C := RX0) (T := TX0) (N := 13) (ci := 1) (g := 5) (i := 0) (v := .ref (G.ad 0 0)) hx hb hown hts hX hC in_X0 rfl (cin rfl) rfl 3 (by decide) q425 (fun _ h => h) rfl dX0_cellOf_41 ?_
      refine fg_getN (C := RX4) (T := TX4) (N := 9) (ci := 0) (g := 0) (i := 0) (v := .ref (G.ad 0 1)) hx hb hown hts hX hC in_X4 rfl (cin rfl) rfl 0 (by decide) (hX.2.2.1.F q240) (fun _ h => h) rfl dX0_cellOf_44 ?_
      refine lv_iload_n hx hb dX0_cellOf_47 rfl (lv_at hl 1 rfl) ?_
      refine fg_iald (g := 0) (i := 1) (t0 := 0) (v := d (20 + ix c0)) hx hb hX hC (cin rfl) rfl rfl (vin_of c_2 36 (by decide)) rfl dX0_cellOf_48 ?_
      have hs : s_cellOf d fd c0 what = ((d (20 + ix c0), fd) : Int32 × Row) := by first | grind [s_cellOf] | rfl
      exact fr_i hx hb hr hlocks hX hC () (congrArg (fun z => some (Value.int z)) (t2_1 hs)) (congrArg (fun z => cct G (pg d kp as un to sc z tp sh) sp) (t2_2 hs)).symm dX0_cellOf_49
    by_cases c_4 : what = 1
    · refine lv_tableIn (off := 36) (tgt := 50) hx hb dX0_cellOf_14 (by rw [c_4]; decide) (by rw [c_4]; decide) (by rw [c_4]; rfl) (by decide) ?_
      refine lv_aload_n hx hb dX0_cellOf_50 rfl (lv_at hl 0 rfl) ?_
      refine fg_get (C := RX0) (T := TX0) (N := 13) (ci := 1) (g := 5) (i := 0) (v := .ref (G.ad 0 0)) hx hb hown hts hX hC in_X0 rfl (cin rfl) rfl 3 (by decide) q425 (fun _ h => h) rfl dX0_cellOf_51 ?_
      refine fg_getN (C := RX4) (T := TX4) (N := 9) (ci := 0) (g := 0) (i := 0) (v := .ref (G.ad 0 2)) hx hb hown hts hX hC in_X4 rfl (cin rfl) rfl 1 (by decide) (hX.2.2.1.F q243) (fun _ h => h) rfl dX0_cellOf_54 ?_
      refine lv_iload_n hx hb dX0_cellOf_57 rfl (lv_at hl 1 rfl) ?_
      refine fg_iald (g := 0) (i := 2) (t0 := 0) (v := d (56 + ix c0)) hx hb hX hC (cin rfl) rfl rfl (vin_of c_2 36 (by decide)) rfl dX0_cellOf_58 ?_
      have hs : s_cellOf d fd c0 what = ((d (56 + ix c0), fd) : Int32 × Row) := by first | grind [s_cellOf] | rfl
      exact fr_i hx hb hr hlocks hX hC () (congrArg (fun z => some (Value.int z)) (t2_1 hs)) (congrArg (fun z => cct G (pg d kp as un to sc z tp sh) sp) (t2_2 hs)).symm dX0_cellOf_59
    by_cases c_5 : what = 2
    · refine lv_tableIn (off := 46) (tgt := 60) hx hb dX0_cellOf_14 (by rw [c_5]; decide) (by rw [c_5]; decide) (by rw [c_5]; rfl) (by decide) ?_
      refine lv_aload_n hx hb dX0_cellOf_60 rfl (lv_at hl 0 rfl) ?_
      refine fg_get (C := RX0) (T := TX0) (N := 13) (ci := 1) (g := 5) (i := 0) (v := .ref (G.ad 0 0)) hx hb hown hts hX hC in_X0 rfl (cin rfl) rfl 3 (by decide) q425 (fun _ h => h) rfl dX0_cellOf_61 ?_
      refine lv_iload_n hx hb dX0_cellOf_64 rfl (lv_at hl 1 rfl) ?_
      refine fc_V (As := [.int c0]) (rest := []) hx hb hml hown hts hX hC (m_X4_loudAt hw c0) (lw_V q481 q482 q483 q115 q484) hdV_X4_loudAt ⟨rfl, rfl⟩ ⟨Nat.le_of_ble_eq_true rfl, Nat.le_of_ble_eq_true rfl⟩ (fx_recv (g := 0) (i := 0) (ci := 0) (q := (RX4, TX4, 9)) hX hC (cin rfl) rfl rfl) hl.1 rfl (Nat.le_of_ble_eq_true rfl) ⟨Nat.zero_le _, Nat.zero_le _⟩ dX0_cellOf_65 (fun _ H locs hC => ?_)
      refine W.eq (g2 := F0 m 68 ls [.int (p_loudAt d c0)]) rfl ?_
      have hs : s_cellOf d fd c0 what = ((p_loudAt d c0, fd) : Int32 × Row) := by first | grind [s_cellOf] | rfl
      exact fr_i hx hb hr hlocks hX hC () (congrArg (fun z => some (Value.int z)) (t2_1 hs)) (congrArg (fun z => cct G (pg d kp as un to sc z tp sh) sp) (t2_2 hs)).symm dX0_cellOf_68
    refine lv_tableOut (tgt := 69) hx hb dX0_cellOf_14 (tabo 0 3 (by decide) (fun k hk => match k, hk with | 0, _ => c_3 | 1, _ => c_4 | 2, _ => c_5) rfl) (by decide) ?_
    refine lv_aload_n hx hb dX0_cellOf_69 rfl (lv_at hl 0 rfl) ?_
    refine lv_iconst (v := 0) hx hb dX0_cellOf_70 rfl ?_
    refine fc_V (As := [.int 0]) (rest := []) hx hb hml hown hts hX hC (m_X0_finding 0 (vin_b rfl)) (lw_V q472 q474 qs2 q108 q475) hdV_X0_finding ⟨rfl, rfl⟩ ⟨Nat.le_of_ble_eq_true rfl, Nat.le_of_ble_eq_true rfl⟩ (fx_recv (g := 5) (i := 0) (ci := 1) (q := (RX0, TX0, 13)) hX hC (cin rfl) rfl rfl) hl.1 rfl (Nat.le_of_ble_eq_true rfl) ⟨Nat.zero_le _, Nat.zero_le _⟩ dX0_cellOf_71 (fun _ H locs hC => ?_)
    refine W.eq (g2 := F0 m 74 ls [.int (-1000001)]) rfl ?_
    have hs : s_cellOf d fd c0 what = (((-1000001), p_find fd 0) : Int32 × Row) := by first | grind [s_cellOf] | rfl
    exact fr_i hx hb hr hlocks hX hC () (congrArg (fun z => some (Value.int z)) (t2_1 hs)) (congrArg (fun z => cct G (pg d kp as un to sc z tp sh) sp) (t2_2 hs)).symm dX0_cellOf_74
  · refine lv_aload_n hx hb dX0_cellOf_7 rfl (lv_at hl 0 rfl) ?_
    refine lv_iconst (v := 0) hx hb dX0_cellOf_8 rfl ?_
    refine fc_V (As := [.int 0]) (rest := []) hx hb hml hown hts hX hC (m_X0_finding 0 (vin_b rfl)) (lw_V q472 q474 qs2 q108 q475) hdV_X0_finding ⟨rfl, rfl⟩ ⟨Nat.le_of_ble_eq_true rfl, Nat.le_of_ble_eq_true rfl⟩ (fx_recv (g := 5) (i := 0) (ci := 1) (q := (RX0, TX0, 13)) hX hC (cin rfl) rfl rfl) hl.1 rfl (Nat.le_of_ble_eq_true rfl) ⟨Nat.zero_le _, Nat.zero_le _⟩ dX0_cellOf_9 (fun _ H locs hC => ?_)
    refine W.eq (g2 := F0 m 12 ls [.int (-1000001)]) rfl ?_
    have hs : s_cellOf d fd c0 what = (((-1000001), p_find fd 0) : Int32 × Row) := by first | grind [s_cellOf] | rfl
    exact fr_i hx hb hr hlocks hX hC () (congrArg (fun z => some (Value.int z)) (t2_1 hs)) (congrArg (fun z => cct G (pg d kp as un to sc z tp sh) sp) (t2_2 hs)).symm dX0_cellOf_12
set_option maxRecDepth 100000 in
theorem m_X0_isOfMouse {l : Launch} {G : Gc} {d kp as un to sc fd tp sh : Row} {sp : Nat → Option Nat} (what v : Int32) : Cm l yX0_isOfMouse (ws_ yX0_isOfMouse cX0_isOfMouse 3 (some .boolean)) ({ frames := 2, cells := 0, slots := 0, locals := 42 }) (cF G) [.ref (G.ad 5 0), .int what, .int v] (cct G (pg d kp as un to sc fd tp sh) sp) (fun _ : Unit => some (.int (b2i (p_okMouse d what v)))) (fun _ => cct G (pg d kp as un to sc fd tp sh) sp) := by
  refine Cm.start (by decide) (Nat.le_of_ble_eq_true rfl) ?_
  intro p e s m below meth c hf hX hC ls hl
  obtain ⟨hx, hb, hr, hml, hown, hts, hlocks⟩ := hf
  have hl : lv_has ls 3 [(0, .ref (G.ad 5 0)), (1, .int what), (2, .int v)] := hl
  have hown : s.vm.findClass "OwlEars" = some m.cls := hown
  refine lv_iload_n hx hb dX0_isOfMouse_0 rfl (lv_at hl 1 rfl) ?_
  by_cases c_1 : what = 0
  · refine lv_tableIn (off := 35) (tgt := 36) hx hb dX0_isOfMouse_1 (by rw [c_1]; decide) (by rw [c_1]; decide) (by rw [c_1]; rfl) (by decide) ?_
    refine lv_iload_n hx hb dX0_isOfMouse_36 rfl (lv_at hl 2 rfl) ?_
    refine fc_S (As := [.int v]) (rest := []) hx hb hml hown hts hX hC (m_X0_isCell v) (lw_S q466 q467 q108 q468) hdS_X0_isCell ⟨rfl, rfl⟩ ⟨Nat.le_of_ble_eq_true rfl, Nat.le_of_ble_eq_true rfl⟩ hl.1 rfl (Nat.le_of_ble_eq_true rfl) ⟨Nat.zero_le _, Nat.zero_le _⟩ dX0_isOfMouse_37 (fun _ H locs hC => ?_)
    refine W.eq (g2 := F0 m 40 ls [.int (b2i (p_in v 0 35))]) rfl ?_
    exact fr_z hx hb hr nar_b2i hlocks hX hC () (congrArg (fun z => some (Value.int z)) (b2i_c (by grind))) rfl dX0_isOfMouse_40
  by_cases c_3 : what = 1
  · refine lv_tableIn (off := 40) (tgt := 41) hx hb dX0_isOfMouse_1 (by rw [c_3]; decide) (by rw [c_3]; decide) (by rw [c_3]; rfl) (by decide) ?_
    refine lv_iload_n hx hb dX0_isOfMouse_41 rfl (lv_at hl 2 rfl) ?_
    refine fc_S (As := [.int v]) (rest := []) hx hb hml hown hts hX hC (m_X0_isHeading v) (lw_S q510 q511 q108 q512) hdS_X0_isHeading ⟨rfl, rfl⟩ ⟨Nat.le_of_ble_eq_true rfl, Nat.le_of_ble_eq_true rfl⟩ hl.1 rfl (Nat.le_of_ble_eq_true rfl) ⟨Nat.zero_le _, Nat.zero_le _⟩ dX0_isOfMouse_42 (fun _ H locs hC => ?_)
    refine W.eq (g2 := F0 m 45 ls [.int (b2i (p_in v 0 3))]) rfl ?_
    exact fr_z hx hb hr nar_b2i hlocks hX hC () (congrArg (fun z => some (Value.int z)) (b2i_c (by grind))) rfl dX0_isOfMouse_45
  by_cases c_5 : what = 2
  · refine lv_tableIn (off := 45) (tgt := 46) hx hb dX0_isOfMouse_1 (by rw [c_5]; decide) (by rw [c_5]; decide) (by rw [c_5]; rfl) (by decide) ?_
    refine lv_iload_n hx hb dX0_isOfMouse_46 rfl (lv_at hl 2 rfl) ?_
    refine lv_iconst (v := 1) hx hb dX0_isOfMouse_47 rfl ?_
    refine lv_bipush (v := 9) hx hb dX0_isOfMouse_48 rfl ?_
    refine fc_S (As := [.int v, .int 1, .int 9]) (rest := []) hx hb hml hown hts hX hC (m_X0_in v 1 9) (lw_S q469 q470 q108 q471) hdS_X0_in ⟨rfl, rfl⟩ ⟨Nat.le_of_ble_eq_true rfl, Nat.le_of_ble_eq_true rfl⟩ hl.1 rfl (Nat.le_of_ble_eq_true rfl) ⟨Nat.zero_le _, Nat.zero_le _⟩ dX0_isOfMouse_50 (fun _ H locs hC => ?_)
    refine W.eq (g2 := F0 m 53 ls [.int (b2i (p_in v 1 9))]) rfl ?_
    refine fb_eq (tgt := 83) hx hb dX0_isOfMouse_53 (by decide) (fun c_7 => ?_) (fun c_7 => ?_)
    · refine lv_iconst (v := 0) hx hb dX0_isOfMouse_83 rfl ?_
      exact fr_z hx hb hr rfl hlocks hX hC () (congrArg (fun z => some (Value.int z)) (b2i_f (by grind))) rfl dX0_isOfMouse_84
    · refine lv_aload_n hx hb dX0_isOfMouse_56 rfl (lv_at hl 0 rfl) ?_
      refine fg_get (C := RX0) (T := TX0) (N := 13) (ci := 1) (g := 5) (i := 0) (v := .ref (G.ad 0 0)) hx hb hown hts hX hC in_X0 rfl (cin rfl) rfl 3 (by decide) q425 (fun _ h => h) rfl dX0_isOfMouse_57 ?_
      refine fg_getN (C := RX4) (T := TX4) (N := 9) (ci := 0) (g := 0) (i := 0) (v := .ref (G.ad 0 3)) hx hb hown hts hX hC in_X4 rfl (cin rfl) rfl 2 (by decide) (hX.2.2.1.F q246) (fun _ h => h) rfl dX0_isOfMouse_60 ?_
      refine lv_iconst (v := 4) hx hb dX0_isOfMouse_63 rfl ?_
      refine fg_iald (g := 0) (i := 3) (t0 := 0) (v := d 7) hx hb hX hC (cin rfl) rfl rfl (vin_b rfl) rfl dX0_isOfMouse_64 ?_
      refine lv_iload_n hx hb dX0_isOfMouse_65 rfl (lv_at hl 2 rfl) ?_
      refine lv_aload_n hx hb dX0_isOfMouse_66 rfl (lv_at hl 0 rfl) ?_
      refine fg_get (C := RX0) (T := TX0) (N := 13) (ci := 1) (g := 5) (i := 0) (v := .ref (G.ad 0 0)) hx hb hown hts hX hC in_X0 rfl (cin rfl) rfl 3 (by decide) q425 (fun _ h => h) rfl dX0_isOfMouse_67 ?_
      refine fg_getN (C := RX4) (T := TX4) (N := 9) (ci := 0) (g := 0) (i := 0) (v := .ref (G.ad 0 3)) hx hb hown hts hX hC in_X4 rfl (cin rfl) rfl 2 (by decide) (hX.2.2.1.F q246) (fun _ h => h) rfl dX0_isOfMouse_70 ?_
      refine lv_iconst (v := 3) hx hb dX0_isOfMouse_73 rfl ?_
      refine fg_iald (g := 0) (i := 3) (t0 := 0) (v := d 6) hx hb hX hC (cin rfl) rfl rfl (vin_b rfl) rfl dX0_isOfMouse_74 ?_
      refine lv_iadd hx hb dX0_isOfMouse_75 ?_
      refine fj_ge (tgt := 83) hx hb dX0_isOfMouse_76 (by decide) (fun c_8 => ?_) (fun c_8 => ?_)
      · refine lv_iconst (v := 0) hx hb dX0_isOfMouse_83 rfl ?_
        exact fr_z hx hb hr rfl hlocks hX hC () (congrArg (fun z => some (Value.int z)) (b2i_f (by grind))) rfl dX0_isOfMouse_84
      · refine lv_iconst (v := 1) hx hb dX0_isOfMouse_79 rfl ?_
        refine lv_goto (tgt := 84) hx hb dX0_isOfMouse_80 (by decide) ?_
        exact fr_z hx hb hr rfl hlocks hX hC () (congrArg (fun z => some (Value.int z)) (b2i_t (by grind))) rfl dX0_isOfMouse_84
  by_cases c_9 : what = 3
  · refine lv_tableIn (off := 84) (tgt := 85) hx hb dX0_isOfMouse_1 (by rw [c_9]; decide) (by rw [c_9]; decide) (by rw [c_9]; rfl) (by decide) ?_
    refine lv_iload_n hx hb dX0_isOfMouse_85 rfl (lv_at hl 2 rfl) ?_
    refine lv_iconst (v := 0) hx hb dX0_isOfMouse_86 rfl ?_
    refine lv_bipush (v := 9) hx hb dX0_isOfMouse_87 rfl ?_
    refine fc_S (As := [.int v, .int 0, .int 9]) (rest := []) hx hb hml hown hts hX hC (m_X0_in v 0 9) (lw_S q469 q470 q108 q471) hdS_X0_in ⟨rfl, rfl⟩ ⟨Nat.le_of_ble_eq_true rfl, Nat.le_of_ble_eq_true rfl⟩ hl.1 rfl (Nat.le_of_ble_eq_true rfl) ⟨Nat.zero_le _, Nat.zero_le _⟩ dX0_isOfMouse_89 (fun _ H locs hC => ?_)
    refine W.eq (g2 := F0 m 92 ls [.int (b2i (p_in v 0 9))]) rfl ?_
    refine fb_eq (tgt := 122) hx hb dX0_isOfMouse_92 (by decide) (fun c_11 => ?_) (fun c_11 => ?_)
    · refine lv_iconst (v := 0) hx hb dX0_isOfMouse_122 rfl ?_
      exact fr_z hx hb hr rfl hlocks hX hC () (congrArg (fun z => some (Value.int z)) (b2i_f (by grind))) rfl dX0_isOfMouse_123
    · refine lv_aload_n hx hb dX0_isOfMouse_95 rfl (lv_at hl 0 rfl) ?_
      refine fg_get (C := RX0) (T := TX0) (N := 13) (ci := 1) (g := 5) (i := 0) (v := .ref (G.ad 0 0)) hx hb hown hts hX hC in_X0 rfl (cin rfl) rfl 3 (by decide) q425 (fun _ h => h) rfl dX0_isOfMouse_96 ?_
      refine fg_getN (C := RX4) (T := TX4) (N := 9) (ci := 0) (g := 0) (i := 0) (v := .ref (G.ad 0 3)) hx hb hown hts hX hC in_X4 rfl (cin rfl) rfl 2 (by decide) (hX.2.2.1.F q246) (fun _ h => h) rfl dX0_isOfMouse_99 ?_
      refine lv_iconst (v := 4) hx hb dX0_isOfMouse_102 rfl ?_
      refine fg_iald (g := 0) (i := 3) (t0 := 0) (v := d 7) hx hb hX hC (cin rfl) rfl rfl (vin_b rfl) rfl dX0_isOfMouse_103 ?_
      refine lv_iload_n hx hb dX0_isOfMouse_104 rfl (lv_at hl 2 rfl) ?_
      refine lv_aload_n hx hb dX0_isOfMouse_105 rfl (lv_at hl 0 rfl) ?_
      refine fg_get (C := RX0) (T := TX0) (N := 13) (ci := 1) (g := 5) (i := 0) (v := .ref (G.ad 0 0)) hx hb hown hts hX hC in_X0 rfl (cin rfl) rfl 3 (by decide) q425 (fun _ h => h) rfl dX0_isOfMouse_106 ?_
      refine fg_getN (C := RX4) (T := TX4) (N := 9) (ci := 0) (g := 0) (i := 0) (v := .ref (G.ad 0 3)) hx hb hown hts hX hC in_X4 rfl (cin rfl) rfl 2 (by decide) (hX.2.2.1.F q246) (fun _ h => h) rfl dX0_isOfMouse_109 ?_
      refine lv_iconst (v := 2) hx hb dX0_isOfMouse_112 rfl ?_
      refine fg_iald (g := 0) (i := 3) (t0 := 0) (v := d 5) hx hb hX hC (cin rfl) rfl rfl (vin_b rfl) rfl dX0_isOfMouse_113 ?_
      refine lv_iadd hx hb dX0_isOfMouse_114 ?_
      refine fj_ge (tgt := 122) hx hb dX0_isOfMouse_115 (by decide) (fun c_12 => ?_) (fun c_12 => ?_)
      · refine lv_iconst (v := 0) hx hb dX0_isOfMouse_122 rfl ?_
        exact fr_z hx hb hr rfl hlocks hX hC () (congrArg (fun z => some (Value.int z)) (b2i_f (by grind))) rfl dX0_isOfMouse_123
      · refine lv_iconst (v := 1) hx hb dX0_isOfMouse_118 rfl ?_
        refine lv_goto (tgt := 123) hx hb dX0_isOfMouse_119 (by decide) ?_
        exact fr_z hx hb hr rfl hlocks hX hC () (congrArg (fun z => some (Value.int z)) (b2i_t (by grind))) rfl dX0_isOfMouse_123
  by_cases c_13 : what = 4
  · refine lv_tableIn (off := 123) (tgt := 124) hx hb dX0_isOfMouse_1 (by rw [c_13]; decide) (by rw [c_13]; decide) (by rw [c_13]; rfl) (by decide) ?_
    refine lv_iload_n hx hb dX0_isOfMouse_124 rfl (lv_at hl 2 rfl) ?_
    refine lv_iconst (v := 0) hx hb dX0_isOfMouse_125 rfl ?_
    refine lv_aload_n hx hb dX0_isOfMouse_126 rfl (lv_at hl 0 rfl) ?_
    refine fg_get (C := RX0) (T := TX0) (N := 13) (ci := 1) (g := 5) (i := 0) (v := .ref (G.ad 0 0)) hx hb hown hts hX hC in_X0 rfl (cin rfl) rfl 3 (by decide) q425 (fun _ h => h) rfl dX0_isOfMouse_127 ?_
    refine fg_getN (C := RX4) (T := TX4) (N := 9) (ci := 0) (g := 0) (i := 0) (v := .ref (G.ad 0 3)) hx hb hown hts hX hC in_X4 rfl (cin rfl) rfl 2 (by decide) (hX.2.2.1.F q246) (fun _ h => h) rfl dX0_isOfMouse_130 ?_
    refine lv_iconst (v := 2) hx hb dX0_isOfMouse_133 rfl ?_
    refine fg_iald (g := 0) (i := 3) (t0 := 0) (v := d 5) hx hb hX hC (cin rfl) rfl rfl (vin_b rfl) rfl dX0_isOfMouse_134 ?_
    refine lv_aload_n hx hb dX0_isOfMouse_135 rfl (lv_at hl 0 rfl) ?_
    refine fg_get (C := RX0) (T := TX0) (N := 13) (ci := 1) (g := 5) (i := 0) (v := .ref (G.ad 0 0)) hx hb hown hts hX hC in_X0 rfl (cin rfl) rfl 3 (by decide) q425 (fun _ h => h) rfl dX0_isOfMouse_136 ?_
    refine fg_getN (C := RX4) (T := TX4) (N := 9) (ci := 0) (g := 0) (i := 0) (v := .ref (G.ad 0 3)) hx hb hown hts hX hC in_X4 rfl (cin rfl) rfl 2 (by decide) (hX.2.2.1.F q246) (fun _ h => h) rfl dX0_isOfMouse_139 ?_
    refine lv_iconst (v := 3) hx hb dX0_isOfMouse_142 rfl ?_
    refine fg_iald (g := 0) (i := 3) (t0 := 0) (v := d 6) hx hb hX hC (cin rfl) rfl rfl (vin_b rfl) rfl dX0_isOfMouse_143 ?_
    refine lv_iadd hx hb dX0_isOfMouse_144 ?_
    refine lv_iconst (v := 1) hx hb dX0_isOfMouse_145 rfl ?_
    refine lv_isub hx hb dX0_isOfMouse_146 ?_
    refine fc_S (As := [.int v, .int 0, .int (((d 5) + (d 6)) - 1)]) (rest := []) hx hb hml hown hts hX hC (m_X0_in v 0 (((d 5) + (d 6)) - 1)) (lw_S q469 q470 q108 q471) hdS_X0_in ⟨rfl, rfl⟩ ⟨Nat.le_of_ble_eq_true rfl, Nat.le_of_ble_eq_true rfl⟩ hl.1 rfl (Nat.le_of_ble_eq_true rfl) ⟨Nat.zero_le _, Nat.zero_le _⟩ dX0_isOfMouse_147 (fun _ H locs hC => ?_)
    refine W.eq (g2 := F0 m 150 ls [.int (b2i (p_in v 0 (((d 5) + (d 6)) - 1)))]) rfl ?_
    exact fr_z hx hb hr nar_b2i hlocks hX hC () (congrArg (fun z => some (Value.int z)) (b2i_c (by grind))) rfl dX0_isOfMouse_150
  refine lv_tableOut (tgt := 151) hx hb dX0_isOfMouse_1 (tabo 0 5 (by decide) (fun k hk => match k, hk with | 0, _ => c_1 | 1, _ => c_3 | 2, _ => c_5 | 3, _ => c_9 | 4, _ => c_13) rfl) (by decide) ?_
  refine lv_iconst (v := 0) hx hb dX0_isOfMouse_151 rfl ?_
  exact fr_z hx hb hr rfl hlocks hX hC () (congrArg (fun z => some (Value.int z)) (b2i_f (by grind))) rfl dX0_isOfMouse_152
set_option maxRecDepth 100000 in
theorem m_X0_mouse {l : Launch} {G : Gc} {d kp as un to sc fd tp sh : Row} {sp : Nat → Option Nat} (hw : WF d) (what v : Int32) : Cm l yX0_mouse (ws_ yX0_mouse cX0_mouse 4 (some .int)) ({ frames := 3, cells := 0, slots := 0, locals := 64 }) (cF G) [.ref (G.ad 5 0), .int what, .int v] (cct G (pg d kp as un to sc fd tp sh) sp) (fun _ : Unit => some (.int ((s_mouse d fd what v).1))) (fun _ => cct G (pg ((s_mouse d fd what v).2.1) kp as un to sc ((s_mouse d fd what v).2.2) tp sh) sp) := by
  refine Cm.start (by decide) (Nat.le_of_ble_eq_true rfl) ?_
  intro p e s m below meth c hf hX hC ls hl
  obtain ⟨hx, hb, hr, hml, hown, hts, hlocks⟩ := hf
  have hl : lv_has ls 4 [(0, .ref (G.ad 5 0)), (1, .int what), (2, .int v)] := hl
  have hown : s.vm.findClass "OwlEars" = some m.cls := hown
  refine lv_aload_n hx hb dX0_mouse_0 rfl (lv_at hl 0 rfl) ?_
  refine lv_iload_n hx hb dX0_mouse_1 rfl (lv_at hl 1 rfl) ?_
  refine lv_iload_n hx hb dX0_mouse_2 rfl (lv_at hl 2 rfl) ?_
  refine fc_V (As := [.int what, .int v]) (rest := []) hx hb hml hown hts hX hC (m_X0_isOfMouse what v) (lw_V q506 q508 qs3 q108 q509) hdV_X0_isOfMouse ⟨rfl, rfl⟩ ⟨Nat.le_of_ble_eq_true rfl, Nat.le_of_ble_eq_true rfl⟩ (fx_recv (g := 5) (i := 0) (ci := 1) (q := (RX0, TX0, 13)) hX hC (cin rfl) rfl rfl) hl.1 rfl (Nat.le_of_ble_eq_true rfl) ⟨Nat.zero_le _, Nat.zero_le _⟩ dX0_mouse_3 (fun _ H locs hC => ?_)
  refine W.eq (g2 := F0 m 6 ls [.int (b2i (p_okMouse d what v))]) rfl ?_
  refine fb_ne (tgt := 15) hx hb dX0_mouse_6 (by decide) (fun c_2 => ?_) (fun c_2 => ?_)
  · refine lv_aload_n hx hb dX0_mouse_15 rfl (lv_at hl 0 rfl) ?_
    refine fg_get (C := RX0) (T := TX0) (N := 13) (ci := 1) (g := 5) (i := 0) (v := .ref (G.ad 0 0)) hx hb hown hts hX hC in_X0 rfl (cin rfl) rfl 3 (by decide) q425 (fun _ h => h) rfl dX0_mouse_16 ?_
    refine fg_getN (C := RX4) (T := TX4) (N := 9) (ci := 0) (g := 0) (i := 0) (v := .ref (G.ad 0 3)) hx hb hown hts hX hC in_X4 rfl (cin rfl) rfl 2 (by decide) (hX.2.2.1.F q246) (fun _ h => h) rfl dX0_mouse_19 ?_
    refine lv_iload_n hx hb dX0_mouse_22 rfl (lv_at hl 1 rfl) ?_
    refine fg_iald (g := 0) (i := 3) (t0 := 0) (v := d (3 + ix what)) hx hb hX hC (cin rfl) rfl rfl (okMouse_in c_2) rfl dX0_mouse_23 ?_
    refine lv_istore_n (lv' := [(3, .int (d (3 + ix what))), (0, .ref (G.ad 5 0)), (1, .int what), (2, .int v)]) hx hb dX0_mouse_24 rfl hl (by decide) rfl (fun ls hl => ?_)
    refine lv_aload_n hx hb dX0_mouse_25 rfl (lv_at hl 1 rfl) ?_
    refine fg_get (C := RX0) (T := TX0) (N := 13) (ci := 1) (g := 5) (i := 0) (v := .ref (G.ad 0 0)) hx hb hown hts hX hC in_X0 rfl (cin rfl) rfl 3 (by decide) q425 (fun _ h => h) rfl dX0_mouse_26 ?_
    refine fg_getN (C := RX4) (T := TX4) (N := 9) (ci := 0) (g := 0) (i := 0) (v := .ref (G.ad 0 3)) hx hb hown hts hX hC in_X4 rfl (cin rfl) rfl 2 (by decide) (hX.2.2.1.F q246) (fun _ h => h) rfl dX0_mouse_29 ?_
    refine lv_iload_n hx hb dX0_mouse_32 rfl (lv_at hl 2 rfl) ?_
    refine lv_iload_n hx hb dX0_mouse_33 rfl (lv_at hl 3 rfl) ?_
    refine fg_iast (g := 0) (i := 3) (t0 := 0) hx hb hX hC (cin rfl) rfl rfl (okMouse_in c_2) (cct G (pg (upd d (3 + ix what) v) kp as un to sc fd tp sh) sp) (cs_mouse (k := ix what) (vin_lt (okMouse_in c_2))) dX0_mouse_34 (fun H locs hC => ?_)
    refine lv_iload_n hx hb dX0_mouse_35 rfl (lv_at hl 0 rfl) ?_
    have hs : s_mouse d fd what v = ((d (3 + ix what), upd d (3 + ix what) v, fd) : Int32 × Row × Row) := by first | grind [s_mouse] | rfl
    exact fr_i hx hb hr hlocks hX hC () (congrArg (fun z => some (Value.int z)) (t3_1 hs)) ((congrArg (fun z => cct G (pg z kp as un to sc ((s_mouse d fd what v).2.2) tp sh) sp) (t3_2 hs)).trans (congrArg (fun z => cct G (pg (upd d (3 + ix what) v) kp as un to sc z tp sh) sp) (t3_3 hs))).symm dX0_mouse_36
  · refine lv_aload_n hx hb dX0_mouse_9 rfl (lv_at hl 0 rfl) ?_
    refine lv_iconst (v := 0) hx hb dX0_mouse_10 rfl ?_
    refine fc_V (As := [.int 0]) (rest := []) hx hb hml hown hts hX hC (m_X0_finding 0 (vin_b rfl)) (lw_V q472 q474 qs2 q108 q475) hdV_X0_finding ⟨rfl, rfl⟩ ⟨Nat.le_of_ble_eq_true rfl, Nat.le_of_ble_eq_true rfl⟩ (fx_recv (g := 5) (i := 0) (ci := 1) (q := (RX0, TX0, 13)) hX hC (cin rfl) rfl rfl) hl.1 rfl (Nat.le_of_ble_eq_true rfl) ⟨Nat.zero_le _, Nat.zero_le _⟩ dX0_mouse_11 (fun _ H locs hC => ?_)
    refine W.eq (g2 := F0 m 14 ls [.int (-1000001)]) rfl ?_
    have hs : s_mouse d fd what v = (((-1000001), d, p_find fd 0) : Int32 × Row × Row) := by first | grind [s_mouse] | rfl
    exact fr_i hx hb hr hlocks hX hC () (congrArg (fun z => some (Value.int z)) (t3_1 hs)) ((congrArg (fun z => cct G (pg z kp as un to sc ((s_mouse d fd what v).2.2) tp sh) sp) (t3_2 hs)).trans (congrArg (fun z => cct G (pg d kp as un to sc z tp sh) sp) (t3_3 hs))).symm dX0_mouse_14
set_option maxRecDepth 100000 in
theorem m_X0_owl {l : Launch} {G : Gc} {d kp as un to sc fd tp sh : Row} {sp : Nat → Option Nat} (hw : WF d) (what v : Int32) : Cm l yX0_owl (ws_ yX0_owl cX0_owl 5 (some .int)) ({ frames := 2, cells := 0, slots := 0, locals := 42 }) (cF G) [.ref (G.ad 5 0), .int what, .int v] (cct G (pg d kp as un to sc fd tp sh) sp) (fun _ : Unit => some (.int ((s_owl d fd what v).1))) (fun _ => cct G (pg ((s_owl d fd what v).2.1) kp as un to sc ((s_owl d fd what v).2.2) tp sh) sp) := by
  refine Cm.start (by decide) (Nat.le_of_ble_eq_true rfl) ?_
  intro p e s m below meth c hf hX hC ls hl
  obtain ⟨hx, hb, hr, hml, hown, hts, hlocks⟩ := hf
  have hl : lv_has ls 5 [(0, .ref (G.ad 5 0)), (1, .int what), (2, .int v)] := hl
  have hown : s.vm.findClass "OwlEars" = some m.cls := hown
  refine lv_iload_n hx hb dX0_owl_0 rfl (lv_at hl 1 rfl) ?_
  refine lv_if_ne (tgt := 11) hx hb dX0_owl_1 (by decide) (fun c_1 => ?_) (fun c_1 => ?_)
  · refine lv_iload_n hx hb dX0_owl_11 rfl (lv_at hl 1 rfl) ?_
    refine lv_iconst (v := 1) hx hb dX0_owl_12 rfl ?_
    refine lv_icmp_ne (tgt := 27) hx hb dX0_owl_13 (by decide) (fun c_2 => ?_) (fun c_2 => ?_)
    · refine lv_iconst (v := 0) hx hb dX0_owl_27 rfl ?_
      refine lv_istore_n (lv' := [(3, .int 0), (0, .ref (G.ad 5 0)), (1, .int what), (2, .int v)]) hx hb dX0_owl_28 rfl hl (by decide) rfl (fun ls hl => ?_)
      refine lv_iload_n hx hb dX0_owl_29 rfl (lv_at hl 0 rfl) ?_
      refine lv_if_ne (tgt := 39) hx hb dX0_owl_30 (by decide) (fun z_3 => absurd (by decide) z_3) (fun _ => ?_)
      refine lv_aload_n hx hb dX0_owl_33 rfl (lv_at hl 1 rfl) ?_
      refine lv_iconst (v := 0) hx hb dX0_owl_34 rfl ?_
      refine fc_V (As := [.int 0]) (rest := []) hx hb hml hown hts hX hC (m_X0_finding 0 (vin_b rfl)) (lw_V q472 q474 qs2 q108 q475) hdV_X0_finding ⟨rfl, rfl⟩ ⟨Nat.le_of_ble_eq_true rfl, Nat.le_of_ble_eq_true rfl⟩ (fx_recv (g := 5) (i := 0) (ci := 1) (q := (RX0, TX0, 13)) hX hC (cin rfl) rfl rfl) hl.1 rfl (Nat.le_of_ble_eq_true rfl) ⟨Nat.zero_le _, Nat.zero_le _⟩ dX0_owl_35 (fun _ H locs hC => ?_)
      refine W.eq (g2 := F0 m 38 ls [.int (-1000001)]) rfl ?_
      have hs : s_owl d fd what v = (((-1000001), d, p_find fd 0) : Int32 × Row × Row) := by first | grind [s_owl] | rfl
      exact fr_i hx hb hr hlocks hX hC () (congrArg (fun z => some (Value.int z)) (t3_1 hs)) ((congrArg (fun z => cct G (pg z kp as un to sc ((s_owl d fd what v).2.2) tp sh) sp) (t3_2 hs)).trans (congrArg (fun z => cct G (pg d kp as un to sc z tp sh) sp) (t3_3 hs))).symm dX0_owl_38
    · refine lv_iload_n hx hb dX0_owl_16 rfl (lv_at hl 2 rfl) ?_
      refine fc_S (As := [.int v]) (rest := []) hx hb hml hown hts hX hC (m_X0_isHeading v) (lw_S q510 q511 q108 q512) hdS_X0_isHeading ⟨rfl, rfl⟩ ⟨Nat.le_of_ble_eq_true rfl, Nat.le_of_ble_eq_true rfl⟩ hl.1 rfl (Nat.le_of_ble_eq_true rfl) ⟨Nat.zero_le _, Nat.zero_le _⟩ dX0_owl_17 (fun _ H locs hC => ?_)
      refine W.eq (g2 := F0 m 20 ls [.int (b2i (p_in v 0 3))]) rfl ?_
      refine fb_eq (tgt := 27) hx hb dX0_owl_20 (by decide) (fun c_6 => ?_) (fun c_6 => ?_)
      · refine lv_iconst (v := 0) hx hb dX0_owl_27 rfl ?_
        refine lv_istore_n (lv' := [(3, .int 0), (0, .ref (G.ad 5 0)), (1, .int what), (2, .int v)]) hx hb dX0_owl_28 rfl hl (by decide) rfl (fun ls hl => ?_)
        refine lv_iload_n hx hb dX0_owl_29 rfl (lv_at hl 0 rfl) ?_
        refine lv_if_ne (tgt := 39) hx hb dX0_owl_30 (by decide) (fun z_7 => absurd (by decide) z_7) (fun _ => ?_)
        refine lv_aload_n hx hb dX0_owl_33 rfl (lv_at hl 1 rfl) ?_
        refine lv_iconst (v := 0) hx hb dX0_owl_34 rfl ?_
        refine fc_V (As := [.int 0]) (rest := []) hx hb hml hown hts hX hC (m_X0_finding 0 (vin_b rfl)) (lw_V q472 q474 qs2 q108 q475) hdV_X0_finding ⟨rfl, rfl⟩ ⟨Nat.le_of_ble_eq_true rfl, Nat.le_of_ble_eq_true rfl⟩ (fx_recv (g := 5) (i := 0) (ci := 1) (q := (RX0, TX0, 13)) hX hC (cin rfl) rfl rfl) hl.1 rfl (Nat.le_of_ble_eq_true rfl) ⟨Nat.zero_le _, Nat.zero_le _⟩ dX0_owl_35 (fun _ H locs hC => ?_)
        refine W.eq (g2 := F0 m 38 ls [.int (-1000001)]) rfl ?_
        have hs : s_owl d fd what v = (((-1000001), d, p_find fd 0) : Int32 × Row × Row) := by first | grind [s_owl] | rfl
        exact fr_i hx hb hr hlocks hX hC () (congrArg (fun z => some (Value.int z)) (t3_1 hs)) ((congrArg (fun z => cct G (pg z kp as un to sc ((s_owl d fd what v).2.2) tp sh) sp) (t3_2 hs)).trans (congrArg (fun z => cct G (pg d kp as un to sc z tp sh) sp) (t3_3 hs))).symm dX0_owl_38
      · refine lv_iconst (v := 1) hx hb dX0_owl_23 rfl ?_
        refine lv_goto (tgt := 28) hx hb dX0_owl_24 (by decide) ?_
        refine lv_istore_n (lv' := [(3, .int 1), (0, .ref (G.ad 5 0)), (1, .int what), (2, .int v)]) hx hb dX0_owl_28 rfl hl (by decide) rfl (fun ls hl => ?_)
        refine lv_iload_n hx hb dX0_owl_29 rfl (lv_at hl 0 rfl) ?_
        refine lv_if_ne (tgt := 39) hx hb dX0_owl_30 (by decide) (fun _ => ?_) (fun z_9 => absurd z_9 (by decide))
        refine lv_aload_n hx hb dX0_owl_39 rfl (lv_at hl 1 rfl) ?_
        refine fg_get (C := RX0) (T := TX0) (N := 13) (ci := 1) (g := 5) (i := 0) (v := .ref (G.ad 0 0)) hx hb hown hts hX hC in_X0 rfl (cin rfl) rfl 3 (by decide) q425 (fun _ h => h) rfl dX0_owl_40 ?_
        refine fg_getN (C := RX4) (T := TX4) (N := 9) (ci := 0) (g := 0) (i := 0) (v := .ref (G.ad 0 4)) hx hb hown hts hX hC in_X4 rfl (cin rfl) rfl 3 (by decide) (hX.2.2.1.F q250) (fun _ h => h) rfl dX0_owl_43 ?_
        refine lv_iload_n hx hb dX0_owl_46 rfl (lv_at hl 2 rfl) ?_
        refine fg_iald (g := 0) (i := 4) (t0 := 0) (v := d (8 + ix what)) hx hb hX hC (cin rfl) rfl rfl (by rw [c_2]; exact vin_b rfl) rfl dX0_owl_47 ?_
        refine lv_istore (lv' := [(4, .int (d (8 + ix what))), (3, .int 1), (0, .ref (G.ad 5 0)), (1, .int what), (2, .int v)]) hx hb dX0_owl_48 hl (by decide) rfl (fun ls hl => ?_)
        refine lv_aload_n hx hb dX0_owl_50 rfl (lv_at hl 2 rfl) ?_
        refine fg_get (C := RX0) (T := TX0) (N := 13) (ci := 1) (g := 5) (i := 0) (v := .ref (G.ad 0 0)) hx hb hown hts hX hC in_X0 rfl (cin rfl) rfl 3 (by decide) q425 (fun _ h => h) rfl dX0_owl_51 ?_
        refine fg_getN (C := RX4) (T := TX4) (N := 9) (ci := 0) (g := 0) (i := 0) (v := .ref (G.ad 0 4)) hx hb hown hts hX hC in_X4 rfl (cin rfl) rfl 3 (by decide) (hX.2.2.1.F q250) (fun _ h => h) rfl dX0_owl_54 ?_
        refine lv_iload_n hx hb dX0_owl_57 rfl (lv_at hl 3 rfl) ?_
        refine lv_iload_n hx hb dX0_owl_58 rfl (lv_at hl 4 rfl) ?_
        refine fg_iast (g := 0) (i := 4) (t0 := 0) hx hb hX hC (cin rfl) rfl rfl (by rw [c_2]; exact vin_b rfl) (cct G (pg (upd d (8 + ix what) v) kp as un to sc fd tp sh) sp) (cs_owl (k := ix what) (vin_lt (by rw [c_2]; exact vin_b rfl))) dX0_owl_59 (fun H locs hC => ?_)
        refine lv_iload hx hb dX0_owl_60 (lv_at hl 0 rfl) ?_
        have hs : s_owl d fd what v = ((d (8 + ix what), upd d (8 + ix what) v, fd) : Int32 × Row × Row) := by first | grind [s_owl] | rfl
        exact fr_i hx hb hr hlocks hX hC () (congrArg (fun z => some (Value.int z)) (t3_1 hs)) ((congrArg (fun z => cct G (pg z kp as un to sc ((s_owl d fd what v).2.2) tp sh) sp) (t3_2 hs)).trans (congrArg (fun z => cct G (pg (upd d (8 + ix what) v) kp as un to sc z tp sh) sp) (t3_3 hs))).symm dX0_owl_62
  · refine lv_iload_n hx hb dX0_owl_4 rfl (lv_at hl 2 rfl) ?_
    refine fc_S (As := [.int v]) (rest := []) hx hb hml hown hts hX hC (m_X0_isCell v) (lw_S q466 q467 q108 q468) hdS_X0_isCell ⟨rfl, rfl⟩ ⟨Nat.le_of_ble_eq_true rfl, Nat.le_of_ble_eq_true rfl⟩ hl.1 rfl (Nat.le_of_ble_eq_true rfl) ⟨Nat.zero_le _, Nat.zero_le _⟩ dX0_owl_5 (fun _ H locs hC => ?_)
    refine W.eq (g2 := F0 m 8 ls [.int (b2i (p_in v 0 35))]) rfl ?_
    refine fb_ne (tgt := 23) hx hb dX0_owl_8 (by decide) (fun c_11 => ?_) (fun c_11 => ?_)
    · refine lv_iconst (v := 1) hx hb dX0_owl_23 rfl ?_
      refine lv_goto (tgt := 28) hx hb dX0_owl_24 (by decide) ?_
      refine lv_istore_n (lv' := [(3, .int 1), (0, .ref (G.ad 5 0)), (1, .int what), (2, .int v)]) hx hb dX0_owl_28 rfl hl (by decide) rfl (fun ls hl => ?_)
      refine lv_iload_n hx hb dX0_owl_29 rfl (lv_at hl 0 rfl) ?_
      refine lv_if_ne (tgt := 39) hx hb dX0_owl_30 (by decide) (fun _ => ?_) (fun z_12 => absurd z_12 (by decide))
      refine lv_aload_n hx hb dX0_owl_39 rfl (lv_at hl 1 rfl) ?_
      refine fg_get (C := RX0) (T := TX0) (N := 13) (ci := 1) (g := 5) (i := 0) (v := .ref (G.ad 0 0)) hx hb hown hts hX hC in_X0 rfl (cin rfl) rfl 3 (by decide) q425 (fun _ h => h) rfl dX0_owl_40 ?_
      refine fg_getN (C := RX4) (T := TX4) (N := 9) (ci := 0) (g := 0) (i := 0) (v := .ref (G.ad 0 4)) hx hb hown hts hX hC in_X4 rfl (cin rfl) rfl 3 (by decide) (hX.2.2.1.F q250) (fun _ h => h) rfl dX0_owl_43 ?_
      refine lv_iload_n hx hb dX0_owl_46 rfl (lv_at hl 2 rfl) ?_
      refine fg_iald (g := 0) (i := 4) (t0 := 0) (v := d (8 + ix what)) hx hb hX hC (cin rfl) rfl rfl (by rw [c_1]; exact vin_b rfl) rfl dX0_owl_47 ?_
      refine lv_istore (lv' := [(4, .int (d (8 + ix what))), (3, .int 1), (0, .ref (G.ad 5 0)), (1, .int what), (2, .int v)]) hx hb dX0_owl_48 hl (by decide) rfl (fun ls hl => ?_)
      refine lv_aload_n hx hb dX0_owl_50 rfl (lv_at hl 2 rfl) ?_
      refine fg_get (C := RX0) (T := TX0) (N := 13) (ci := 1) (g := 5) (i := 0) (v := .ref (G.ad 0 0)) hx hb hown hts hX hC in_X0 rfl (cin rfl) rfl 3 (by decide) q425 (fun _ h => h) rfl dX0_owl_51 ?_
      refine fg_getN (C := RX4) (T := TX4) (N := 9) (ci := 0) (g := 0) (i := 0) (v := .ref (G.ad 0 4)) hx hb hown hts hX hC in_X4 rfl (cin rfl) rfl 3 (by decide) (hX.2.2.1.F q250) (fun _ h => h) rfl dX0_owl_54 ?_
      refine lv_iload_n hx hb dX0_owl_57 rfl (lv_at hl 3 rfl) ?_
      refine lv_iload_n hx hb dX0_owl_58 rfl (lv_at hl 4 rfl) ?_
      refine fg_iast (g := 0) (i := 4) (t0 := 0) hx hb hX hC (cin rfl) rfl rfl (by rw [c_1]; exact vin_b rfl) (cct G (pg (upd d (8 + ix what) v) kp as un to sc fd tp sh) sp) (cs_owl (k := ix what) (vin_lt (by rw [c_1]; exact vin_b rfl))) dX0_owl_59 (fun H locs hC => ?_)
      refine lv_iload hx hb dX0_owl_60 (lv_at hl 0 rfl) ?_
      have hs : s_owl d fd what v = ((d (8 + ix what), upd d (8 + ix what) v, fd) : Int32 × Row × Row) := by first | grind [s_owl] | rfl
      exact fr_i hx hb hr hlocks hX hC () (congrArg (fun z => some (Value.int z)) (t3_1 hs)) ((congrArg (fun z => cct G (pg z kp as un to sc ((s_owl d fd what v).2.2) tp sh) sp) (t3_2 hs)).trans (congrArg (fun z => cct G (pg (upd d (8 + ix what) v) kp as un to sc z tp sh) sp) (t3_3 hs))).symm dX0_owl_62
    · refine lv_iload_n hx hb dX0_owl_11 rfl (lv_at hl 1 rfl) ?_
      refine lv_iconst (v := 1) hx hb dX0_owl_12 rfl ?_
      refine lv_icmp_ne (tgt := 27) hx hb dX0_owl_13 (by decide) (fun c_13 => ?_) (fun c_13 => ?_)
      · refine lv_iconst (v := 0) hx hb dX0_owl_27 rfl ?_
        refine lv_istore_n (lv' := [(3, .int 0), (0, .ref (G.ad 5 0)), (1, .int what), (2, .int v)]) hx hb dX0_owl_28 rfl hl (by decide) rfl (fun ls hl => ?_)
        refine lv_iload_n hx hb dX0_owl_29 rfl (lv_at hl 0 rfl) ?_
        refine lv_if_ne (tgt := 39) hx hb dX0_owl_30 (by decide) (fun z_14 => absurd (by decide) z_14) (fun _ => ?_)
        refine lv_aload_n hx hb dX0_owl_33 rfl (lv_at hl 1 rfl) ?_
        refine lv_iconst (v := 0) hx hb dX0_owl_34 rfl ?_
        refine fc_V (As := [.int 0]) (rest := []) hx hb hml hown hts hX hC (m_X0_finding 0 (vin_b rfl)) (lw_V q472 q474 qs2 q108 q475) hdV_X0_finding ⟨rfl, rfl⟩ ⟨Nat.le_of_ble_eq_true rfl, Nat.le_of_ble_eq_true rfl⟩ (fx_recv (g := 5) (i := 0) (ci := 1) (q := (RX0, TX0, 13)) hX hC (cin rfl) rfl rfl) hl.1 rfl (Nat.le_of_ble_eq_true rfl) ⟨Nat.zero_le _, Nat.zero_le _⟩ dX0_owl_35 (fun _ H locs hC => ?_)
        refine W.eq (g2 := F0 m 38 ls [.int (-1000001)]) rfl ?_
        have hs : s_owl d fd what v = (((-1000001), d, p_find fd 0) : Int32 × Row × Row) := by first | grind [s_owl] | rfl
        exact fr_i hx hb hr hlocks hX hC () (congrArg (fun z => some (Value.int z)) (t3_1 hs)) ((congrArg (fun z => cct G (pg z kp as un to sc ((s_owl d fd what v).2.2) tp sh) sp) (t3_2 hs)).trans (congrArg (fun z => cct G (pg d kp as un to sc z tp sh) sp) (t3_3 hs))).symm dX0_owl_38
      · refine lv_iload_n hx hb dX0_owl_16 rfl (lv_at hl 2 rfl) ?_
        refine fc_S (As := [.int v]) (rest := []) hx hb hml hown hts hX hC (m_X0_isHeading v) (lw_S q510 q511 q108 q512) hdS_X0_isHeading ⟨rfl, rfl⟩ ⟨Nat.le_of_ble_eq_true rfl, Nat.le_of_ble_eq_true rfl⟩ hl.1 rfl (Nat.le_of_ble_eq_true rfl) ⟨Nat.zero_le _, Nat.zero_le _⟩ dX0_owl_17 (fun _ H locs hC => ?_)
        refine W.eq (g2 := F0 m 20 ls [.int (b2i (p_in v 0 3))]) rfl ?_
        refine fb_eq (tgt := 27) hx hb dX0_owl_20 (by decide) (fun c_17 => ?_) (fun c_17 => ?_)
        · refine lv_iconst (v := 0) hx hb dX0_owl_27 rfl ?_
          refine lv_istore_n (lv' := [(3, .int 0), (0, .ref (G.ad 5 0)), (1, .int what), (2, .int v)]) hx hb dX0_owl_28 rfl hl (by decide) rfl (fun ls hl => ?_)
          refine lv_iload_n hx hb dX0_owl_29 rfl (lv_at hl 0 rfl) ?_
          refine lv_if_ne (tgt := 39) hx hb dX0_owl_30 (by decide) (fun z_18 => absurd (by decide) z_18) (fun _ => ?_)
          refine lv_aload_n hx hb dX0_owl_33 rfl (lv_at hl 1 rfl) ?_
          refine lv_iconst (v := 0) hx hb dX0_owl_34 rfl ?_
          refine fc_V (As := [.int 0]) (rest := []) hx hb hml hown hts hX hC (m_X0_finding 0 (vin_b rfl)) (lw_V q472 q474 qs2 q108 q475) hdV_X0_finding ⟨rfl, rfl⟩ ⟨Nat.le_of_ble_eq_true rfl, Nat.le_of_ble_eq_true rfl⟩ (fx_recv (g := 5) (i := 0) (ci := 1) (q := (RX0, TX0, 13)) hX hC (cin rfl) rfl rfl) hl.1 rfl (Nat.le_of_ble_eq_true rfl) ⟨Nat.zero_le _, Nat.zero_le _⟩ dX0_owl_35 (fun _ H locs hC => ?_)
          refine W.eq (g2 := F0 m 38 ls [.int (-1000001)]) rfl ?_
          have hs : s_owl d fd what v = (((-1000001), d, p_find fd 0) : Int32 × Row × Row) := by first | grind [s_owl] | rfl
          exact fr_i hx hb hr hlocks hX hC () (congrArg (fun z => some (Value.int z)) (t3_1 hs)) ((congrArg (fun z => cct G (pg z kp as un to sc ((s_owl d fd what v).2.2) tp sh) sp) (t3_2 hs)).trans (congrArg (fun z => cct G (pg d kp as un to sc z tp sh) sp) (t3_3 hs))).symm dX0_owl_38
        · refine lv_iconst (v := 1) hx hb dX0_owl_23 rfl ?_
          refine lv_goto (tgt := 28) hx hb dX0_owl_24 (by decide) ?_
          refine lv_istore_n (lv' := [(3, .int 1), (0, .ref (G.ad 5 0)), (1, .int what), (2, .int v)]) hx hb dX0_owl_28 rfl hl (by decide) rfl (fun ls hl => ?_)
          refine lv_iload_n hx hb dX0_owl_29 rfl (lv_at hl 0 rfl) ?_
          refine lv_if_ne (tgt := 39) hx hb dX0_owl_30 (by decide) (fun _ => ?_) (fun z_20 => absurd z_20 (by decide))
          refine lv_aload_n hx hb dX0_owl_39 rfl (lv_at hl 1 rfl) ?_
          refine fg_get (C := RX0) (T := TX0) (N := 13) (ci := 1) (g := 5) (i := 0) (v := .ref (G.ad 0 0)) hx hb hown hts hX hC in_X0 rfl (cin rfl) rfl 3 (by decide) q425 (fun _ h => h) rfl dX0_owl_40 ?_
          refine fg_getN (C := RX4) (T := TX4) (N := 9) (ci := 0) (g := 0) (i := 0) (v := .ref (G.ad 0 4)) hx hb hown hts hX hC in_X4 rfl (cin rfl) rfl 3 (by decide) (hX.2.2.1.F q250) (fun _ h => h) rfl dX0_owl_43 ?_
          refine lv_iload_n hx hb dX0_owl_46 rfl (lv_at hl 2 rfl) ?_
          refine fg_iald (g := 0) (i := 4) (t0 := 0) (v := d (8 + ix what)) hx hb hX hC (cin rfl) rfl rfl (by rw [c_1]; exact vin_b rfl) rfl dX0_owl_47 ?_
          refine lv_istore (lv' := [(4, .int (d (8 + ix what))), (3, .int 1), (0, .ref (G.ad 5 0)), (1, .int what), (2, .int v)]) hx hb dX0_owl_48 hl (by decide) rfl (fun ls hl => ?_)
          refine lv_aload_n hx hb dX0_owl_50 rfl (lv_at hl 2 rfl) ?_
          refine fg_get (C := RX0) (T := TX0) (N := 13) (ci := 1) (g := 5) (i := 0) (v := .ref (G.ad 0 0)) hx hb hown hts hX hC in_X0 rfl (cin rfl) rfl 3 (by decide) q425 (fun _ h => h) rfl dX0_owl_51 ?_
          refine fg_getN (C := RX4) (T := TX4) (N := 9) (ci := 0) (g := 0) (i := 0) (v := .ref (G.ad 0 4)) hx hb hown hts hX hC in_X4 rfl (cin rfl) rfl 3 (by decide) (hX.2.2.1.F q250) (fun _ h => h) rfl dX0_owl_54 ?_
          refine lv_iload_n hx hb dX0_owl_57 rfl (lv_at hl 3 rfl) ?_
          refine lv_iload_n hx hb dX0_owl_58 rfl (lv_at hl 4 rfl) ?_
          refine fg_iast (g := 0) (i := 4) (t0 := 0) hx hb hX hC (cin rfl) rfl rfl (by rw [c_1]; exact vin_b rfl) (cct G (pg (upd d (8 + ix what) v) kp as un to sc fd tp sh) sp) (cs_owl (k := ix what) (vin_lt (by rw [c_1]; exact vin_b rfl))) dX0_owl_59 (fun H locs hC => ?_)
          refine lv_iload hx hb dX0_owl_60 (lv_at hl 0 rfl) ?_
          have hs : s_owl d fd what v = ((d (8 + ix what), upd d (8 + ix what) v, fd) : Int32 × Row × Row) := by first | grind [s_owl] | rfl
          exact fr_i hx hb hr hlocks hX hC () (congrArg (fun z => some (Value.int z)) (t3_1 hs)) ((congrArg (fun z => cct G (pg z kp as un to sc ((s_owl d fd what v).2.2) tp sh) sp) (t3_2 hs)).trans (congrArg (fun z => cct G (pg (upd d (8 + ix what) v) kp as un to sc z tp sh) sp) (t3_3 hs))).symm dX0_owl_62
set_option maxRecDepth 100000 in
theorem m_X0_told {l : Launch} {G : Gc} {d kp as un to sc fd tp sh : Row} {sp : Nat → Option Nat} (hw : WF d) (what : Int32) : Cm l yX0_told (ws_ yX0_told cX0_told 2 (some .int)) ({ frames := 2, cells := 0, slots := 0, locals := 40 }) (cF G) [.ref (G.ad 5 0), .int what] (cct G (pg d kp as un to sc fd tp sh) sp) (fun _ : Unit => some (.int ((s_told d fd what).1))) (fun _ => cct G (pg d kp as un to sc ((s_told d fd what).2) tp sh) sp) := by
  refine Cm.start (by decide) (Nat.le_of_ble_eq_true rfl) ?_
  intro p e s m below meth c hf hX hC ls hl
  obtain ⟨hx, hb, hr, hml, hown, hts, hlocks⟩ := hf
  have hl : lv_has ls 2 [(0, .ref (G.ad 5 0)), (1, .int what)] := hl
  have hown : s.vm.findClass "OwlEars" = some m.cls := hown
  refine lv_iload_n hx hb dX0_told_0 rfl (lv_at hl 1 rfl) ?_
  refine lv_iconst (v := 0) hx hb dX0_told_1 rfl ?_
  refine lv_iconst (v := 4) hx hb dX0_told_2 rfl ?_
  refine fc_S (As := [.int what, .int 0, .int 4]) (rest := []) hx hb hml hown hts hX hC (m_X0_in what 0 4) (lw_S q469 q470 q108 q471) hdS_X0_in ⟨rfl, rfl⟩ ⟨Nat.le_of_ble_eq_true rfl, Nat.le_of_ble_eq_true rfl⟩ hl.1 rfl (Nat.le_of_ble_eq_true rfl) ⟨Nat.zero_le _, Nat.zero_le _⟩ dX0_told_3 (fun _ H locs hC => ?_)
  refine W.eq (g2 := F0 m 6 ls [.int (b2i (p_in what 0 4))]) rfl ?_
  refine fb_eq (tgt := 19) hx hb dX0_told_6 (by decide) (fun c_2 => ?_) (fun c_2 => ?_)
  · refine lv_iload_n hx hb dX0_told_19 rfl (lv_at hl 1 rfl) ?_
    by_cases c_3 : what = 5
    · refine lv_tableIn (off := 44) (tgt := 64) hx hb dX0_told_20 (by rw [c_3]; decide) (by rw [c_3]; decide) (by rw [c_3]; rfl) (by decide) ?_
      refine lv_aload_n hx hb dX0_told_64 rfl (lv_at hl 0 rfl) ?_
      refine fg_get (C := RX0) (T := TX0) (N := 13) (ci := 1) (g := 5) (i := 0) (v := .ref (G.ad 0 0)) hx hb hown hts hX hC in_X0 rfl (cin rfl) rfl 3 (by decide) q425 (fun _ h => h) rfl dX0_told_65 ?_
      refine fc_V (As := []) (rest := []) hx hb hml hown hts hX hC (m_X4_isRunning) (lw_V q521 q490 q491 q115 q492) hdV_X4_isRunning ⟨rfl, rfl⟩ ⟨Nat.le_of_ble_eq_true rfl, Nat.le_of_ble_eq_true rfl⟩ (fx_recv (g := 0) (i := 0) (ci := 0) (q := (RX4, TX4, 9)) hX hC (cin rfl) rfl rfl) hl.1 rfl (Nat.le_of_ble_eq_true rfl) ⟨Nat.zero_le _, Nat.zero_le _⟩ dX0_told_68 (fun _ H locs hC => ?_)
      refine W.eq (g2 := F0 m 71 ls [.int (b2i (p_run d))]) rfl ?_
      refine fb_eq (tgt := 78) hx hb dX0_told_71 (by decide) (fun c_5 => ?_) (fun c_5 => ?_)
      · refine lv_iconst (v := 0) hx hb dX0_told_78 rfl ?_
        have hs : s_told d fd what = ((0, fd) : Int32 × Row) := by first | grind [s_told, b2i] | rfl
        exact fr_i hx hb hr hlocks hX hC () (congrArg (fun z => some (Value.int z)) (t2_1 hs)) (congrArg (fun z => cct G (pg d kp as un to sc z tp sh) sp) (t2_2 hs)).symm dX0_told_79
      · refine lv_iconst (v := 1) hx hb dX0_told_74 rfl ?_
        refine lv_goto (tgt := 79) hx hb dX0_told_75 (by decide) ?_
        have hs : s_told d fd what = ((1, fd) : Int32 × Row) := by first | grind [s_told, b2i] | rfl
        exact fr_i hx hb hr hlocks hX hC () (congrArg (fun z => some (Value.int z)) (t2_1 hs)) (congrArg (fun z => cct G (pg d kp as un to sc z tp sh) sp) (t2_2 hs)).symm dX0_told_79
    by_cases c_6 : what = 6
    · refine lv_tableIn (off := 60) (tgt := 80) hx hb dX0_told_20 (by rw [c_6]; decide) (by rw [c_6]; decide) (by rw [c_6]; rfl) (by decide) ?_
      refine lv_aload_n hx hb dX0_told_80 rfl (lv_at hl 0 rfl) ?_
      refine fg_get (C := RX0) (T := TX0) (N := 13) (ci := 1) (g := 5) (i := 0) (v := .ref (G.ad 0 0)) hx hb hown hts hX hC in_X0 rfl (cin rfl) rfl 3 (by decide) q425 (fun _ h => h) rfl dX0_told_81 ?_
      refine fc_V (As := []) (rest := []) hx hb hml hown hts hX hC (m_X4_loud hw) (lw_V q522 q486 q487 q115 q488) hdV_X4_loud ⟨rfl, rfl⟩ ⟨Nat.le_of_ble_eq_true rfl, Nat.le_of_ble_eq_true rfl⟩ (fx_recv (g := 0) (i := 0) (ci := 0) (q := (RX4, TX4, 9)) hX hC (cin rfl) rfl rfl) hl.1 rfl (Nat.le_of_ble_eq_true rfl) ⟨Nat.zero_le _, Nat.zero_le _⟩ dX0_told_84 (fun _ H locs hC => ?_)
      refine W.eq (g2 := F0 m 87 ls [.int (p_loud d)]) rfl ?_
      have hs : s_told d fd what = ((p_loud d, fd) : Int32 × Row) := by first | grind [s_told, b2i] | rfl
      exact fr_i hx hb hr hlocks hX hC () (congrArg (fun z => some (Value.int z)) (t2_1 hs)) (congrArg (fun z => cct G (pg d kp as un to sc z tp sh) sp) (t2_2 hs)).symm dX0_told_87
    by_cases c_8 : what = 7
    · refine lv_tableIn (off := 88) (tgt := 108) hx hb dX0_told_20 (by rw [c_8]; decide) (by rw [c_8]; decide) (by rw [c_8]; rfl) (by decide) ?_
      refine lv_aload_n hx hb dX0_told_108 rfl (lv_at hl 0 rfl) ?_
      refine lv_iconst (v := 0) hx hb dX0_told_109 rfl ?_
      refine fc_V (As := [.int 0]) (rest := []) hx hb hml hown hts hX hC (m_X0_finding 0 (vin_b rfl)) (lw_V q472 q474 qs2 q108 q475) hdV_X0_finding ⟨rfl, rfl⟩ ⟨Nat.le_of_ble_eq_true rfl, Nat.le_of_ble_eq_true rfl⟩ (fx_recv (g := 5) (i := 0) (ci := 1) (q := (RX0, TX0, 13)) hX hC (cin rfl) rfl rfl) hl.1 rfl (Nat.le_of_ble_eq_true rfl) ⟨Nat.zero_le _, Nat.zero_le _⟩ dX0_told_110 (fun _ H locs hC => ?_)
      refine W.eq (g2 := F0 m 113 ls [.int (-1000001)]) rfl ?_
      have hs : s_told d fd what = (((-1000001), p_find fd 0) : Int32 × Row) := by first | grind [s_told, b2i] | rfl
      exact fr_i hx hb hr hlocks hX hC () (congrArg (fun z => some (Value.int z)) (t2_1 hs)) (congrArg (fun z => cct G (pg d kp as un to sc z tp sh) sp) (t2_2 hs)).symm dX0_told_113
    by_cases c_10 : what = 8
    · refine lv_tableIn (off := 88) (tgt := 108) hx hb dX0_told_20 (by rw [c_10]; decide) (by rw [c_10]; decide) (by rw [c_10]; rfl) (by decide) ?_
      refine lv_aload_n hx hb dX0_told_108 rfl (lv_at hl 0 rfl) ?_
      refine lv_iconst (v := 0) hx hb dX0_told_109 rfl ?_
      refine fc_V (As := [.int 0]) (rest := []) hx hb hml hown hts hX hC (m_X0_finding 0 (vin_b rfl)) (lw_V q472 q474 qs2 q108 q475) hdV_X0_finding ⟨rfl, rfl⟩ ⟨Nat.le_of_ble_eq_true rfl, Nat.le_of_ble_eq_true rfl⟩ (fx_recv (g := 5) (i := 0) (ci := 1) (q := (RX0, TX0, 13)) hX hC (cin rfl) rfl rfl) hl.1 rfl (Nat.le_of_ble_eq_true rfl) ⟨Nat.zero_le _, Nat.zero_le _⟩ dX0_told_110 (fun _ H locs hC => ?_)
      refine W.eq (g2 := F0 m 113 ls [.int (-1000001)]) rfl ?_
      have hs : s_told d fd what = (((-1000001), p_find fd 0) : Int32 × Row) := by first | grind [s_told, b2i] | rfl
      exact fr_i hx hb hr hlocks hX hC () (congrArg (fun z => some (Value.int z)) (t2_1 hs)) (congrArg (fun z => cct G (pg d kp as un to sc z tp sh) sp) (t2_2 hs)).symm dX0_told_113
    by_cases c_12 : what = 9
    · refine lv_tableIn (off := 88) (tgt := 108) hx hb dX0_told_20 (by rw [c_12]; decide) (by rw [c_12]; decide) (by rw [c_12]; rfl) (by decide) ?_
      refine lv_aload_n hx hb dX0_told_108 rfl (lv_at hl 0 rfl) ?_
      refine lv_iconst (v := 0) hx hb dX0_told_109 rfl ?_
      refine fc_V (As := [.int 0]) (rest := []) hx hb hml hown hts hX hC (m_X0_finding 0 (vin_b rfl)) (lw_V q472 q474 qs2 q108 q475) hdV_X0_finding ⟨rfl, rfl⟩ ⟨Nat.le_of_ble_eq_true rfl, Nat.le_of_ble_eq_true rfl⟩ (fx_recv (g := 5) (i := 0) (ci := 1) (q := (RX0, TX0, 13)) hX hC (cin rfl) rfl rfl) hl.1 rfl (Nat.le_of_ble_eq_true rfl) ⟨Nat.zero_le _, Nat.zero_le _⟩ dX0_told_110 (fun _ H locs hC => ?_)
      refine W.eq (g2 := F0 m 113 ls [.int (-1000001)]) rfl ?_
      have hs : s_told d fd what = (((-1000001), p_find fd 0) : Int32 × Row) := by first | grind [s_told, b2i] | rfl
      exact fr_i hx hb hr hlocks hX hC () (congrArg (fun z => some (Value.int z)) (t2_1 hs)) (congrArg (fun z => cct G (pg d kp as un to sc z tp sh) sp) (t2_2 hs)).symm dX0_told_113
    by_cases c_14 : what = 10
    · refine lv_tableIn (off := 68) (tgt := 88) hx hb dX0_told_20 (by rw [c_14]; decide) (by rw [c_14]; decide) (by rw [c_14]; rfl) (by decide) ?_
      refine lv_aload_n hx hb dX0_told_88 rfl (lv_at hl 0 rfl) ?_
      refine fg_get (C := RX0) (T := TX0) (N := 13) (ci := 1) (g := 5) (i := 0) (v := .ref (G.ad 0 0)) hx hb hown hts hX hC in_X0 rfl (cin rfl) rfl 3 (by decide) q425 (fun _ h => h) rfl dX0_told_89 ?_
      refine fg_getN (C := RX4) (T := TX4) (N := 9) (ci := 0) (g := 0) (i := 0) (v := .ref (G.ad 0 4)) hx hb hown hts hX hC in_X4 rfl (cin rfl) rfl 3 (by decide) (hX.2.2.1.F q250) (fun _ h => h) rfl dX0_told_92 ?_
      refine lv_iconst (v := 0) hx hb dX0_told_95 rfl ?_
      refine fg_iald (g := 0) (i := 4) (t0 := 0) (v := d 8) hx hb hX hC (cin rfl) rfl rfl (vin_b rfl) rfl dX0_told_96 ?_
      have hs : s_told d fd what = ((d 8, fd) : Int32 × Row) := by first | grind [s_told, b2i] | rfl
      exact fr_i hx hb hr hlocks hX hC () (congrArg (fun z => some (Value.int z)) (t2_1 hs)) (congrArg (fun z => cct G (pg d kp as un to sc z tp sh) sp) (t2_2 hs)).symm dX0_told_97
    by_cases c_15 : what = 11
    · refine lv_tableIn (off := 78) (tgt := 98) hx hb dX0_told_20 (by rw [c_15]; decide) (by rw [c_15]; decide) (by rw [c_15]; rfl) (by decide) ?_
      refine lv_aload_n hx hb dX0_told_98 rfl (lv_at hl 0 rfl) ?_
      refine fg_get (C := RX0) (T := TX0) (N := 13) (ci := 1) (g := 5) (i := 0) (v := .ref (G.ad 0 0)) hx hb hown hts hX hC in_X0 rfl (cin rfl) rfl 3 (by decide) q425 (fun _ h => h) rfl dX0_told_99 ?_
      refine fg_getN (C := RX4) (T := TX4) (N := 9) (ci := 0) (g := 0) (i := 0) (v := .ref (G.ad 0 4)) hx hb hown hts hX hC in_X4 rfl (cin rfl) rfl 3 (by decide) (hX.2.2.1.F q250) (fun _ h => h) rfl dX0_told_102 ?_
      refine lv_iconst (v := 1) hx hb dX0_told_105 rfl ?_
      refine fg_iald (g := 0) (i := 4) (t0 := 0) (v := d 9) hx hb hX hC (cin rfl) rfl rfl (vin_b rfl) rfl dX0_told_106 ?_
      have hs : s_told d fd what = ((d 9, fd) : Int32 × Row) := by first | grind [s_told, b2i] | rfl
      exact fr_i hx hb hr hlocks hX hC () (congrArg (fun z => some (Value.int z)) (t2_1 hs)) (congrArg (fun z => cct G (pg d kp as un to sc z tp sh) sp) (t2_2 hs)).symm dX0_told_107
    refine lv_tableOut (tgt := 108) hx hb dX0_told_20 (tabo 5 7 (by decide) (fun k hk => match k, hk with | 0, _ => c_3 | 1, _ => c_6 | 2, _ => c_8 | 3, _ => c_10 | 4, _ => c_12 | 5, _ => c_14 | 6, _ => c_15) rfl) (by decide) ?_
    refine lv_aload_n hx hb dX0_told_108 rfl (lv_at hl 0 rfl) ?_
    refine lv_iconst (v := 0) hx hb dX0_told_109 rfl ?_
    refine fc_V (As := [.int 0]) (rest := []) hx hb hml hown hts hX hC (m_X0_finding 0 (vin_b rfl)) (lw_V q472 q474 qs2 q108 q475) hdV_X0_finding ⟨rfl, rfl⟩ ⟨Nat.le_of_ble_eq_true rfl, Nat.le_of_ble_eq_true rfl⟩ (fx_recv (g := 5) (i := 0) (ci := 1) (q := (RX0, TX0, 13)) hX hC (cin rfl) rfl rfl) hl.1 rfl (Nat.le_of_ble_eq_true rfl) ⟨Nat.zero_le _, Nat.zero_le _⟩ dX0_told_110 (fun _ H locs hC => ?_)
    refine W.eq (g2 := F0 m 113 ls [.int (-1000001)]) rfl ?_
    have hs : s_told d fd what = (((-1000001), p_find fd 0) : Int32 × Row) := by first | grind [s_told, b2i] | rfl
    exact fr_i hx hb hr hlocks hX hC () (congrArg (fun z => some (Value.int z)) (t2_1 hs)) (congrArg (fun z => cct G (pg d kp as un to sc z tp sh) sp) (t2_2 hs)).symm dX0_told_113
  · refine lv_aload_n hx hb dX0_told_9 rfl (lv_at hl 0 rfl) ?_
    refine fg_get (C := RX0) (T := TX0) (N := 13) (ci := 1) (g := 5) (i := 0) (v := .ref (G.ad 0 0)) hx hb hown hts hX hC in_X0 rfl (cin rfl) rfl 3 (by decide) q425 (fun _ h => h) rfl dX0_told_10 ?_
    refine fg_getN (C := RX4) (T := TX4) (N := 9) (ci := 0) (g := 0) (i := 0) (v := .ref (G.ad 0 3)) hx hb hown hts hX hC in_X4 rfl (cin rfl) rfl 2 (by decide) (hX.2.2.1.F q246) (fun _ h => h) rfl dX0_told_13 ?_
    refine lv_iload_n hx hb dX0_told_16 rfl (lv_at hl 1 rfl) ?_
    refine fg_iald (g := 0) (i := 3) (t0 := 0) (v := d (3 + ix what)) hx hb hX hC (cin rfl) rfl rfl (vin_of c_2 5 (by decide)) rfl dX0_told_17 ?_
    have hs : s_told d fd what = ((d (3 + ix what), fd) : Int32 × Row) := by first | grind [s_told, b2i] | rfl
    exact fr_i hx hb hr hlocks hX hC () (congrArg (fun z => some (Value.int z)) (t2_1 hs)) (congrArg (fun z => cct G (pg d kp as un to sc z tp sh) sp) (t2_2 hs)).symm dX0_told_18
set_option maxRecDepth 100000 in
theorem m_X0_strike {l : Launch} {G : Gc} {d kp as un to sc fd tp sh : Row} {sp : Nat → Option Nat} (hw : WF d) (kind aim : Int32) : Cm l yX0_strike (ws_ yX0_strike cX0_strike 3 (some .int)) ({ frames := 2, cells := 0, slots := 0, locals := 42 }) (cF G) [.ref (G.ad 5 0), .int kind, .int aim] (cct G (pg d kp as un to sc fd tp sh) sp) (fun _ : Unit => some (.int ((s_strike d fd kind aim).1))) (fun _ => cct G (pg ((s_strike d fd kind aim).2.1) kp as un to sc ((s_strike d fd kind aim).2.2) tp sh) sp) := by
  refine Cm.start (by decide) (Nat.le_of_ble_eq_true rfl) ?_
  intro p e s m below meth c hf hX hC ls hl
  obtain ⟨hx, hb, hr, hml, hown, hts, hlocks⟩ := hf
  have hl : lv_has ls 3 [(0, .ref (G.ad 5 0)), (1, .int kind), (2, .int aim)] := hl
  have hown : s.vm.findClass "OwlEars" = some m.cls := hown
  refine lv_iload_n hx hb dX0_strike_0 rfl (lv_at hl 1 rfl) ?_
  refine fc_S (As := [.int kind]) (rest := []) hx hb hml hown hts hX hC (m_X0_isKind kind) (lw_S q527 q528 q108 q529) hdS_X0_isKind ⟨rfl, rfl⟩ ⟨Nat.le_of_ble_eq_true rfl, Nat.le_of_ble_eq_true rfl⟩ hl.1 rfl (Nat.le_of_ble_eq_true rfl) ⟨Nat.zero_le _, Nat.zero_le _⟩ dX0_strike_1 (fun _ H locs hC => ?_)
  refine W.eq (g2 := F0 m 4 ls [.int (b2i (p_in kind 0 6))]) rfl ?_
  refine fb_eq (tgt := 14) hx hb dX0_strike_4 (by decide) (fun c_2 => ?_) (fun c_2 => ?_)
  · refine lv_aload_n hx hb dX0_strike_14 rfl (lv_at hl 0 rfl) ?_
    refine lv_iconst (v := 0) hx hb dX0_strike_15 rfl ?_
    refine fc_V (As := [.int 0]) (rest := []) hx hb hml hown hts hX hC (m_X0_finding 0 (vin_b rfl)) (lw_V q472 q474 qs2 q108 q475) hdV_X0_finding ⟨rfl, rfl⟩ ⟨Nat.le_of_ble_eq_true rfl, Nat.le_of_ble_eq_true rfl⟩ (fx_recv (g := 5) (i := 0) (ci := 1) (q := (RX0, TX0, 13)) hX hC (cin rfl) rfl rfl) hl.1 rfl (Nat.le_of_ble_eq_true rfl) ⟨Nat.zero_le _, Nat.zero_le _⟩ dX0_strike_16 (fun _ H locs hC => ?_)
    refine W.eq (g2 := F0 m 19 ls [.int (-1000001)]) rfl ?_
    have hs : s_strike d fd kind aim = (((-1000001), d, p_find fd 0) : Int32 × Row × Row) := by first | grind [s_strike, p_add_1, i_p1m1] | rfl
    exact fr_i hx hb hr hlocks hX hC () (congrArg (fun z => some (Value.int z)) (t3_1 hs)) ((congrArg (fun z => cct G (pg z kp as un to sc ((s_strike d fd kind aim).2.2) tp sh) sp) (t3_2 hs)).trans (congrArg (fun z => cct G (pg d kp as un to sc z tp sh) sp) (t3_3 hs))).symm dX0_strike_19
  · refine lv_iload_n hx hb dX0_strike_7 rfl (lv_at hl 2 rfl) ?_
    refine fc_S (As := [.int aim]) (rest := []) hx hb hml hown hts hX hC (m_X0_isCell aim) (lw_S q466 q467 q108 q468) hdS_X0_isCell ⟨rfl, rfl⟩ ⟨Nat.le_of_ble_eq_true rfl, Nat.le_of_ble_eq_true rfl⟩ hl.1 rfl (Nat.le_of_ble_eq_true rfl) ⟨Nat.zero_le _, Nat.zero_le _⟩ dX0_strike_8 (fun _ H locs hC => ?_)
    refine W.eq (g2 := F0 m 11 ls [.int (b2i (p_in aim 0 35))]) rfl ?_
    refine fb_ne (tgt := 20) hx hb dX0_strike_11 (by decide) (fun c_5 => ?_) (fun c_5 => ?_)
    · refine lv_aload_n hx hb dX0_strike_20 rfl (lv_at hl 0 rfl) ?_
      refine fg_get (C := RX0) (T := TX0) (N := 13) (ci := 1) (g := 5) (i := 0) (v := .ref (G.ad 0 0)) hx hb hown hts hX hC in_X0 rfl (cin rfl) rfl 3 (by decide) q425 (fun _ h => h) rfl dX0_strike_21 ?_
      refine fg_getN (C := RX4) (T := TX4) (N := 9) (ci := 0) (g := 0) (i := 0) (v := .int (d 1)) hx hb hown hts hX hC in_X4 rfl (cin rfl) rfl 4 (by decide) (hX.2.2.1.F q253) (fun _ h => h) rfl dX0_strike_24 ?_
      refine lv_bipush (v := 8) hx hb dX0_strike_27 rfl ?_
      refine lv_icmp_ne (tgt := 38) hx hb dX0_strike_29 (by decide) (fun c_6 => ?_) (fun c_6 => ?_)
      · refine lv_aload_n hx hb dX0_strike_38 rfl (lv_at hl 0 rfl) ?_
        refine fg_get (C := RX0) (T := TX0) (N := 13) (ci := 1) (g := 5) (i := 0) (v := .ref (G.ad 0 0)) hx hb hown hts hX hC in_X0 rfl (cin rfl) rfl 3 (by decide) q425 (fun _ h => h) rfl dX0_strike_39 ?_
        refine lv_iload_n hx hb dX0_strike_42 rfl (lv_at hl 1 rfl) ?_
        refine lv_iload_n hx hb dX0_strike_43 rfl (lv_at hl 2 rfl) ?_
        refine fc_V (As := [.int kind, .int aim]) (rest := []) hx hb hml hown hts hX hC (m_X4_add_0 kind aim (many_lt hw c_6)) (lw_V q530 q531 q532 q115 q533) hdV_X4_add ⟨rfl, rfl⟩ ⟨Nat.le_of_ble_eq_true rfl, Nat.le_of_ble_eq_true rfl⟩ (fx_recv (g := 0) (i := 0) (ci := 0) (q := (RX4, TX4, 9)) hX hC (cin rfl) rfl rfl) hl.1 rfl (Nat.le_of_ble_eq_true rfl) ⟨Nat.zero_le _, Nat.zero_le _⟩ dX0_strike_44 (fun _ H locs hC => ?_)
        refine W.eq (g2 := F0 m 47 ls []) rfl ?_
        refine lv_aload_n hx hb dX0_strike_47 rfl (lv_at hl 0 rfl) ?_
        refine fg_get (C := RX0) (T := TX0) (N := 13) (ci := 1) (g := 5) (i := 0) (v := .ref (G.ad 0 0)) hx hb hown hts hX hC in_X0 rfl (cin rfl) rfl 3 (by decide) q425 (fun _ h => h) rfl dX0_strike_48 ?_
        refine fg_getN (C := RX4) (T := TX4) (N := 9) (ci := 0) (g := 0) (i := 0) (v := .int ((p_add d kind aim) 1)) hx hb hown hts hX hC in_X4 rfl (cin rfl) rfl 4 (by decide) (hX.2.2.1.F q253) (fun _ h => h) rfl dX0_strike_51 ?_
        refine lv_iconst (v := 1) hx hb dX0_strike_54 rfl ?_
        refine lv_isub hx hb dX0_strike_55 ?_
        have hs : s_strike d fd kind aim = ((((p_add d kind aim) 1) - 1, p_add d kind aim, fd) : Int32 × Row × Row) := by first | grind [s_strike, p_add_1, i_p1m1] | rfl
        exact fr_i hx hb hr hlocks hX hC () (congrArg (fun z => some (Value.int z)) (t3_1 hs)) ((congrArg (fun z => cct G (pg z kp as un to sc ((s_strike d fd kind aim).2.2) tp sh) sp) (t3_2 hs)).trans (congrArg (fun z => cct G (pg (p_add d kind aim) kp as un to sc z tp sh) sp) (t3_3 hs))).symm dX0_strike_56
      · refine lv_aload_n hx hb dX0_strike_32 rfl (lv_at hl 0 rfl) ?_
        refine lv_iconst (v := 1) hx hb dX0_strike_33 rfl ?_
        refine fc_V (As := [.int 1]) (rest := []) hx hb hml hown hts hX hC (m_X0_finding 1 (vin_b rfl)) (lw_V q472 q474 qs2 q108 q475) hdV_X0_finding ⟨rfl, rfl⟩ ⟨Nat.le_of_ble_eq_true rfl, Nat.le_of_ble_eq_true rfl⟩ (fx_recv (g := 5) (i := 0) (ci := 1) (q := (RX0, TX0, 13)) hX hC (cin rfl) rfl rfl) hl.1 rfl (Nat.le_of_ble_eq_true rfl) ⟨Nat.zero_le _, Nat.zero_le _⟩ dX0_strike_34 (fun _ H locs hC => ?_)
        refine W.eq (g2 := F0 m 37 ls [.int (-1000002)]) rfl ?_
        have hs : s_strike d fd kind aim = (((-1000002), d, p_find fd 1) : Int32 × Row × Row) := by first | grind [s_strike, p_add_1, i_p1m1] | rfl
        exact fr_i hx hb hr hlocks hX hC () (congrArg (fun z => some (Value.int z)) (t3_1 hs)) ((congrArg (fun z => cct G (pg z kp as un to sc ((s_strike d fd kind aim).2.2) tp sh) sp) (t3_2 hs)).trans (congrArg (fun z => cct G (pg d kp as un to sc z tp sh) sp) (t3_3 hs))).symm dX0_strike_37
    · refine lv_aload_n hx hb dX0_strike_14 rfl (lv_at hl 0 rfl) ?_
      refine lv_iconst (v := 0) hx hb dX0_strike_15 rfl ?_
      refine fc_V (As := [.int 0]) (rest := []) hx hb hml hown hts hX hC (m_X0_finding 0 (vin_b rfl)) (lw_V q472 q474 qs2 q108 q475) hdV_X0_finding ⟨rfl, rfl⟩ ⟨Nat.le_of_ble_eq_true rfl, Nat.le_of_ble_eq_true rfl⟩ (fx_recv (g := 5) (i := 0) (ci := 1) (q := (RX0, TX0, 13)) hX hC (cin rfl) rfl rfl) hl.1 rfl (Nat.le_of_ble_eq_true rfl) ⟨Nat.zero_le _, Nat.zero_le _⟩ dX0_strike_16 (fun _ H locs hC => ?_)
      refine W.eq (g2 := F0 m 19 ls [.int (-1000001)]) rfl ?_
      have hs : s_strike d fd kind aim = (((-1000001), d, p_find fd 0) : Int32 × Row × Row) := by first | grind [s_strike, p_add_1, i_p1m1] | rfl
      exact fr_i hx hb hr hlocks hX hC () (congrArg (fun z => some (Value.int z)) (t3_1 hs)) ((congrArg (fun z => cct G (pg z kp as un to sc ((s_strike d fd kind aim).2.2) tp sh) sp) (t3_2 hs)).trans (congrArg (fun z => cct G (pg d kp as un to sc z tp sh) sp) (t3_3 hs))).symm dX0_strike_19
