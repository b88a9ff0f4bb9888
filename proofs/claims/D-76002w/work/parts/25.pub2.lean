theorem hdV_X0_isStrike : yX0_isStrike.cls = RX0 ∧ yX0_isStrike.cls ≠ "java/lang/invoke/MethodHandle" ∧ yX0_isStrike.cls ≠ "java/lang/invoke/VarHandle" ∧ (parseMethodDescriptor yX0_isStrike.desc).map (fun d => d.parameters.length) = some 1 := by decide +kernel
theorem hdS_X0_isTold : yX0_isTold.cls ≠ "java/lang/invoke/MethodHandle" ∧ yX0_isTold.cls ≠ "java/lang/invoke/VarHandle" ∧ (parseMethodDescriptor yX0_isTold.desc).map (fun d => d.parameters.length) = some 2 := by decide +kernel
theorem hdV_X4_isLate : yX4_isLate.cls = RX4 ∧ yX4_isLate.cls ≠ "java/lang/invoke/MethodHandle" ∧ yX4_isLate.cls ≠ "java/lang/invoke/VarHandle" ∧ (parseMethodDescriptor yX4_isLate.desc).map (fun d => d.parameters.length) = some 1 := by decide +kernel
theorem hdV_X0_isMade : yX0_isMade.cls = RX0 ∧ yX0_isMade.cls ≠ "java/lang/invoke/MethodHandle" ∧ yX0_isMade.cls ≠ "java/lang/invoke/VarHandle" ∧ (parseMethodDescriptor yX0_isMade.desc).map (fun d => d.parameters.length) = some 1 := by decide +kernel
theorem hdV_X0_goesOn : yX0_goesOn.cls = RX0 ∧ yX0_goesOn.cls ≠ "java/lang/invoke/MethodHandle" ∧ yX0_goesOn.cls ≠ "java/lang/invoke/VarHandle" ∧ (parseMethodDescriptor yX0_goesOn.desc).map (fun d => d.parameters.length) = some 1 := by decide +kernel
theorem hdV_X4_hears : yX4_hears.cls = RX4 ∧ yX4_hears.cls ≠ "java/lang/invoke/MethodHandle" ∧ yX4_hears.cls ≠ "java/lang/invoke/VarHandle" ∧ (parseMethodDescriptor yX4_hears.desc).map (fun d => d.parameters.length) = some 0 := by decide +kernel
theorem hdV_X0_havingIt : yX0_havingIt.cls = RX0 ∧ yX0_havingIt.cls ≠ "java/lang/invoke/MethodHandle" ∧ yX0_havingIt.cls ≠ "java/lang/invoke/VarHandle" ∧ (parseMethodDescriptor yX0_havingIt.desc).map (fun d => d.parameters.length) = some 0 := by decide +kernel
theorem hdV_X4_had : yX4_had.cls = RX4 ∧ yX4_had.cls ≠ "java/lang/invoke/MethodHandle" ∧ yX4_had.cls ≠ "java/lang/invoke/VarHandle" ∧ (parseMethodDescriptor yX4_had.desc).map (fun d => d.parameters.length) = some 0 := by decide +kernel
theorem hdV_X4_snows : yX4_snows.cls = RX4 ∧ yX4_snows.cls ≠ "java/lang/invoke/MethodHandle" ∧ yX4_snows.cls ≠ "java/lang/invoke/VarHandle" ∧ (parseMethodDescriptor yX4_snows.desc).map (fun d => d.parameters.length) = some 0 := by decide +kernel
theorem hdV_X0_cellBehind : yX0_cellBehind.cls = RX0 ∧ yX0_cellBehind.cls ≠ "java/lang/invoke/MethodHandle" ∧ yX0_cellBehind.cls ≠ "java/lang/invoke/VarHandle" ∧ (parseMethodDescriptor yX0_cellBehind.desc).map (fun d => d.parameters.length) = some 1 := by decide +kernel
theorem hdV_X0_heardIn : yX0_heardIn.cls = RX0 ∧ yX0_heardIn.cls ≠ "java/lang/invoke/MethodHandle" ∧ yX0_heardIn.cls ≠ "java/lang/invoke/VarHandle" ∧ (parseMethodDescriptor yX0_heardIn.desc).map (fun d => d.parameters.length) = some 1 := by decide +kernel
theorem hdV_X0_ticksTill : yX0_ticksTill.cls = RX0 ∧ yX0_ticksTill.cls ≠ "java/lang/invoke/MethodHandle" ∧ yX0_ticksTill.cls ≠ "java/lang/invoke/VarHandle" ∧ (parseMethodDescriptor yX0_ticksTill.desc).map (fun d => d.parameters.length) = some 1 := by decide +kernel
theorem hdV_X0_orNone : yX0_orNone.cls = RX0 ∧ yX0_orNone.cls ≠ "java/lang/invoke/MethodHandle" ∧ yX0_orNone.cls ≠ "java/lang/invoke/VarHandle" ∧ (parseMethodDescriptor yX0_orNone.desc).map (fun d => d.parameters.length) = some 1 := by decide +kernel
theorem hdV_X0_cellsIn : yX0_cellsIn.cls = RX0 ∧ yX0_cellsIn.cls ≠ "java/lang/invoke/MethodHandle" ∧ yX0_cellsIn.cls ≠ "java/lang/invoke/VarHandle" ∧ (parseMethodDescriptor yX0_cellsIn.desc).map (fun d => d.parameters.length) = some 1 := by decide +kernel
theorem hdV_X0_soonestFor : yX0_soonestFor.cls = RX0 ∧ yX0_soonestFor.cls ≠ "java/lang/invoke/MethodHandle" ∧ yX0_soonestFor.cls ≠ "java/lang/invoke/VarHandle" ∧ (parseMethodDescriptor yX0_soonestFor.desc).map (fun d => d.parameters.length) = some 1 := by decide +kernel
theorem hdV_X0_chancesOf : yX0_chancesOf.cls = RX0 ∧ yX0_chancesOf.cls ≠ "java/lang/invoke/MethodHandle" ∧ yX0_chancesOf.cls ≠ "java/lang/invoke/VarHandle" ∧ (parseMethodDescriptor yX0_chancesOf.desc).map (fun d => d.parameters.length) = some 2 := by decide +kernel
theorem cell_ne {x : Int32} (h : p_in x 0 35) : ¬ x = -1 := fun e => by subst e; exact h.1 (by decide)
set_option maxRecDepth 100000 in
theorem m_X0_isTold {l : Launch} {F : Fam} {ct : Ct} (what v : Int32) : Cm l yX0_isTold (ws_ yX0_isTold cX0_isTold 2 (some .boolean)) ({ frames := 2, cells := 0, slots := 0, locals := 42 }) F [.int what, .int v] (ct) (fun _ : Unit => some (.int (b2i (p_okTold what v)))) (fun _ => ct) := by
  refine Cm.start (by decide) (Nat.le_of_ble_eq_true rfl) ?_
  intro p e s m below meth c hf hX hC ls hl
  obtain ⟨hx, hb, hr, hml, hown, hts, hlocks⟩ := hf
  have hl : lv_has ls 2 [(0, .int what), (1, .int v)] := hl
  have hown : s.vm.findClass "OwlEars" = some m.cls := hown
  refine lv_iload_n hx hb dX0_isTold_0 rfl (lv_at hl 0 rfl) ?_
  by_cases c_1 : what = 0
  · refine lv_tableIn (off := 31) (tgt := 32) hx hb dX0_isTold_1 (by rw [c_1]; decide) (by rw [c_1]; decide) (by rw [c_1]; rfl) (by decide) ?_
    refine lv_iload_n hx hb dX0_isTold_32 rfl (lv_at hl 1 rfl) ?_
    refine fc_S (As := [.int v]) (rest := []) hx hb hml hown hts hX hC (m_X0_isKind v) (lw_S q527 q528 q108 q529) hdS_X0_isKind ⟨rfl, rfl⟩ ⟨Nat.le_of_ble_eq_true rfl, Nat.le_of_ble_eq_true rfl⟩ hl.1 rfl (Nat.le_of_ble_eq_true rfl) ⟨Nat.zero_le _, Nat.zero_le _⟩ dX0_isTold_33 (fun _ H locs hC => ?_)
    refine W.eq (g2 := F0 m 36 ls [.int (b2i (p_in v 0 6))]) rfl ?_
    exact fr_z hx hb hr nar_b2i hlocks hX hC () (congrArg (fun z => some (Value.int z)) (b2i_c (by grind))) rfl dX0_isTold_36
  by_cases c_3 : what = 1
  · refine lv_tableIn (off := 36) (tgt := 37) hx hb dX0_isTold_1 (by rw [c_3]; decide) (by rw [c_3]; decide) (by rw [c_3]; rfl) (by decide) ?_
    refine lv_iload_n hx hb dX0_isTold_37 rfl (lv_at hl 1 rfl) ?_
    refine fc_S (As := [.int v]) (rest := []) hx hb hml hown hts hX hC (m_X0_isCell v) (lw_S q466 q467 q108 q468) hdS_X0_isCell ⟨rfl, rfl⟩ ⟨Nat.le_of_ble_eq_true rfl, Nat.le_of_ble_eq_true rfl⟩ hl.1 rfl (Nat.le_of_ble_eq_true rfl) ⟨Nat.zero_le _, Nat.zero_le _⟩ dX0_isTold_38 (fun _ H locs hC => ?_)
    refine W.eq (g2 := F0 m 41 ls [.int (b2i (p_in v 0 35))]) rfl ?_
    exact fr_z hx hb hr nar_b2i hlocks hX hC () (congrArg (fun z => some (Value.int z)) (b2i_c (by grind))) rfl dX0_isTold_41
  by_cases c_5 : what = 2
  · refine lv_tableIn (off := 41) (tgt := 42) hx hb dX0_isTold_1 (by rw [c_5]; decide) (by rw [c_5]; decide) (by rw [c_5]; rfl) (by decide) ?_
    refine lv_iload_n hx hb dX0_isTold_42 rfl (lv_at hl 1 rfl) ?_
    refine lv_iconst (v := 0) hx hb dX0_isTold_43 rfl ?_
    refine lv_bipush (v := 9) hx hb dX0_isTold_44 rfl ?_
    refine fc_S (As := [.int v, .int 0, .int 9]) (rest := []) hx hb hml hown hts hX hC (m_X0_in v 0 9) (lw_S q469 q470 q108 q471) hdS_X0_in ⟨rfl, rfl⟩ ⟨Nat.le_of_ble_eq_true rfl, Nat.le_of_ble_eq_true rfl⟩ hl.1 rfl (Nat.le_of_ble_eq_true rfl) ⟨Nat.zero_le _, Nat.zero_le _⟩ dX0_isTold_46 (fun _ H locs hC => ?_)
    refine W.eq (g2 := F0 m 49 ls [.int (b2i (p_in v 0 9))]) rfl ?_
    exact fr_z hx hb hr nar_b2i hlocks hX hC () (congrArg (fun z => some (Value.int z)) (b2i_c (by grind))) rfl dX0_isTold_49
  by_cases c_7 : what = 3
  · refine lv_tableIn (off := 49) (tgt := 50) hx hb dX0_isTold_1 (by rw [c_7]; decide) (by rw [c_7]; decide) (by rw [c_7]; rfl) (by decide) ?_
    refine lv_iload_n hx hb dX0_isTold_50 rfl (lv_at hl 1 rfl) ?_
    refine lv_iconst (v := 0) hx hb dX0_isTold_51 rfl ?_
    refine lv_sipush (v := 999) hx hb dX0_isTold_52 rfl ?_
    refine fc_S (As := [.int v, .int 0, .int 999]) (rest := []) hx hb hml hown hts hX hC (m_X0_in v 0 999) (lw_S q469 q470 q108 q471) hdS_X0_in ⟨rfl, rfl⟩ ⟨Nat.le_of_ble_eq_true rfl, Nat.le_of_ble_eq_true rfl⟩ hl.1 rfl (Nat.le_of_ble_eq_true rfl) ⟨Nat.zero_le _, Nat.zero_le _⟩ dX0_isTold_55 (fun _ H locs hC => ?_)
    refine W.eq (g2 := F0 m 58 ls [.int (b2i (p_in v 0 999))]) rfl ?_
    exact fr_z hx hb hr nar_b2i hlocks hX hC () (congrArg (fun z => some (Value.int z)) (b2i_c (by grind))) rfl dX0_isTold_58
  refine lv_tableOut (tgt := 59) hx hb dX0_isTold_1 (tabo 0 4 (by decide) (fun k hk => match k, hk with | 0, _ => c_1 | 1, _ => c_3 | 2, _ => c_5 | 3, _ => c_7) rfl) (by decide) ?_
  refine lv_iconst (v := 0) hx hb dX0_isTold_59 rfl ?_
  exact fr_z hx hb hr rfl hlocks hX hC () (congrArg (fun z => some (Value.int z)) (b2i_f (by grind))) rfl dX0_isTold_60
set_option maxRecDepth 100000 in
theorem m_X0_change {l : Launch} {G : Gc} {d kp as un to sc fd tp sh : Row} {sp : Nat → Option Nat} (hw : WF d) (k what v : Int32) : Cm l yX0_change (ws_ yX0_change cX0_change 5 (some .int)) ({ frames := 3, cells := 0, slots := 0, locals := 63 }) (cF G) [.ref (G.ad 5 0), .int k, .int what, .int v] (cct G (pg d kp as un to sc fd tp sh) sp) (fun _ : Unit => some (.int ((s_change d fd k what v).1))) (fun _ => cct G (pg ((s_change d fd k what v).2.1) kp as un to sc ((s_change d fd k what v).2.2) tp sh) sp) := by
  refine Cm.start (by decide) (Nat.le_of_ble_eq_true rfl) ?_
  intro p e s m below meth c hf hX hC ls hl
  obtain ⟨hx, hb, hr, hml, hown, hts, hlocks⟩ := hf
  have hl : lv_has ls 5 [(0, .ref (G.ad 5 0)), (1, .int k), (2, .int what), (3, .int v)] := hl
  have hown : s.vm.findClass "OwlEars" = some m.cls := hown
  refine lv_aload_n hx hb dX0_change_0 rfl (lv_at hl 0 rfl) ?_
  refine lv_iload_n hx hb dX0_change_1 rfl (lv_at hl 1 rfl) ?_
  refine fc_V (As := [.int k]) (rest := []) hx hb hml hown hts hX hC (m_X0_isStrike k) (lw_V q538 q540 qs4 q108 q541) hdV_X0_isStrike ⟨rfl, rfl⟩ ⟨Nat.le_of_ble_eq_true rfl, Nat.le_of_ble_eq_true rfl⟩ (fx_recv (g := 5) (i := 0) (ci := 1) (q := (RX0, TX0, 13)) hX hC (cin rfl) rfl rfl) hl.1 rfl (Nat.le_of_ble_eq_true rfl) ⟨Nat.zero_le _, Nat.zero_le _⟩ dX0_change_2 (fun _ H locs hC => ?_)
  refine W.eq (g2 := F0 m 5 ls [.int (b2i (p_in k 0 (d 1 - 1)))]) rfl ?_
  refine fb_eq (tgt := 16) hx hb dX0_change_5 (by decide) (fun c_2 => ?_) (fun c_2 => ?_)
  · refine lv_aload_n hx hb dX0_change_16 rfl (lv_at hl 0 rfl) ?_
    refine lv_iconst (v := 0) hx hb dX0_change_17 rfl ?_
    refine fc_V (As := [.int 0]) (rest := []) hx hb hml hown hts hX hC (m_X0_finding 0 (vin_b rfl)) (lw_V q472 q474 qs2 q108 q475) hdV_X0_finding ⟨rfl, rfl⟩ ⟨Nat.le_of_ble_eq_true rfl, Nat.le_of_ble_eq_true rfl⟩ (fx_recv (g := 5) (i := 0) (ci := 1) (q := (RX0, TX0, 13)) hX hC (cin rfl) rfl rfl) hl.1 rfl (Nat.le_of_ble_eq_true rfl) ⟨Nat.zero_le _, Nat.zero_le _⟩ dX0_change_18 (fun _ H locs hC => ?_)
    refine W.eq (g2 := F0 m 21 ls [.int (-1000001)]) rfl ?_
    have hs : s_change d fd k what v = (((-1000001), d, p_find fd 0) : Int32 × Row × Row) := by first | grind [s_change, ix_0, ix_1, ix_2, ix_3] | rfl
    exact fr_i hx hb hr hlocks hX hC () (congrArg (fun z => some (Value.int z)) (t3_1 hs)) ((congrArg (fun z => cct G (pg z kp as un to sc ((s_change d fd k what v).2.2) tp sh) sp) (t3_2 hs)).trans (congrArg (fun z => cct G (pg d kp as un to sc z tp sh) sp) (t3_3 hs))).symm dX0_change_21
  · refine lv_iload_n hx hb dX0_change_8 rfl (lv_at hl 2 rfl) ?_
    refine lv_iload_n hx hb dX0_change_9 rfl (lv_at hl 3 rfl) ?_
    refine fc_S (As := [.int what, .int v]) (rest := []) hx hb hml hown hts hX hC (m_X0_isTold what v) (lw_S q775 q776 q108 q777) hdS_X0_isTold ⟨rfl, rfl⟩ ⟨Nat.le_of_ble_eq_true rfl, Nat.le_of_ble_eq_true rfl⟩ hl.1 rfl (Nat.le_of_ble_eq_true rfl) ⟨Nat.zero_le _, Nat.zero_le _⟩ dX0_change_10 (fun _ H locs hC => ?_)
    refine W.eq (g2 := F0 m 13 ls [.int (b2i (p_okTold what v))]) rfl ?_
    refine fb_ne (tgt := 22) hx hb dX0_change_13 (by decide) (fun c_5 => ?_) (fun c_5 => ?_)
    · refine lv_aload_n hx hb dX0_change_22 rfl (lv_at hl 0 rfl) ?_
      refine fg_get (C := RX0) (T := TX0) (N := 13) (ci := 1) (g := 5) (i := 0) (v := .ref (G.ad 0 0)) hx hb hown hts hX hC in_X0 rfl (cin rfl) rfl 3 (by decide) q425 (fun _ h => h) rfl dX0_change_23 ?_
      refine fg_getN (C := RX4) (T := TX4) (N := 9) (ci := 0) (g := 0) (i := 0) (v := .ref (G.ad 0 5)) hx hb hown hts hX hC in_X4 rfl (cin rfl) rfl 5 (by decide) (hX.2.2.1.F q257) (fun _ h => h) rfl dX0_change_26 ?_
      rcases okTold_cases c_5 with qq | qq | qq | qq
      · subst qq
        refine lv_iload_n hx hb dX0_change_29 rfl (lv_at hl 2 rfl) ?_
        refine fg_ald (g := 0) (i := 5) (t0 := 1) (ty := .array .int) (v := .ref (G.ad 0 6)) hx hb hX hC (cin rfl) rfl rfl rfl (vin_b rfl) rfl dX0_change_30 ?_
        refine lv_iload_n hx hb dX0_change_31 rfl (lv_at hl 1 rfl) ?_
        refine fg_iald (g := 0) (i := 6) (t0 := 0) (v := d (92 + 4 * (ix k))) hx hb hX hC (cin rfl) rfl rfl (kin_of hw c_2) rfl dX0_change_32 ?_
        refine lv_istore (lv' := [(4, .int (d (92 + 4 * (ix k)))), (0, .ref (G.ad 5 0)), (1, .int k), (2, .int 0), (3, .int v)]) hx hb dX0_change_33 hl (by decide) rfl (fun ls hl => ?_)
        refine lv_aload_n hx hb dX0_change_35 rfl (lv_at hl 1 rfl) ?_
        refine fg_get (C := RX0) (T := TX0) (N := 13) (ci := 1) (g := 5) (i := 0) (v := .ref (G.ad 0 0)) hx hb hown hts hX hC in_X0 rfl (cin rfl) rfl 3 (by decide) q425 (fun _ h => h) rfl dX0_change_36 ?_
        refine fg_getN (C := RX4) (T := TX4) (N := 9) (ci := 0) (g := 0) (i := 0) (v := .ref (G.ad 0 5)) hx hb hown hts hX hC in_X4 rfl (cin rfl) rfl 5 (by decide) (hX.2.2.1.F q257) (fun _ h => h) rfl dX0_change_39 ?_
        refine lv_iload_n hx hb dX0_change_42 rfl (lv_at hl 3 rfl) ?_
        refine fg_ald (g := 0) (i := 5) (t0 := 1) (ty := .array .int) (v := .ref (G.ad 0 6)) hx hb hX hC (cin rfl) rfl rfl rfl (vin_b rfl) rfl dX0_change_43 ?_
        refine lv_iload_n hx hb dX0_change_44 rfl (lv_at hl 2 rfl) ?_
        refine lv_iload_n hx hb dX0_change_45 rfl (lv_at hl 4 rfl) ?_
        refine fg_iast (g := 0) (i := 6) (t0 := 0) hx hb hX hC (cin rfl) rfl rfl (kin_of hw c_2) (cct G (pg (upd d (92 + 4 * (ix k)) v) kp as un to sc fd tp sh) sp) (cs_r0 (k := ix k)) dX0_change_46 (fun H locs hC => ?_)
        refine lv_iload hx hb dX0_change_47 (lv_at hl 0 rfl) ?_
        have hs : s_change d fd k 0 v = ((d (92 + 4 * (ix k)), upd d (92 + 4 * (ix k)) v, fd) : Int32 × Row × Row) := by first | grind [s_change, ix_0, ix_1, ix_2, ix_3] | rfl
        exact fr_i hx hb hr hlocks hX hC () (congrArg (fun z => some (Value.int z)) (t3_1 hs)) ((congrArg (fun z => cct G (pg z kp as un to sc ((s_change d fd k 0 v).2.2) tp sh) sp) (t3_2 hs)).trans (congrArg (fun z => cct G (pg (upd d (92 + 4 * (ix k)) v) kp as un to sc z tp sh) sp) (t3_3 hs))).symm dX0_change_49
      · subst qq
        refine lv_iload_n hx hb dX0_change_29 rfl (lv_at hl 2 rfl) ?_
        refine fg_ald (g := 0) (i := 5) (t0 := 1) (ty := .array .int) (v := .ref (G.ad 0 7)) hx hb hX hC (cin rfl) rfl rfl rfl (vin_b rfl) rfl dX0_change_30 ?_
        refine lv_iload_n hx hb dX0_change_31 rfl (lv_at hl 1 rfl) ?_
        refine fg_iald (g := 0) (i := 7) (t0 := 0) (v := d (93 + 4 * (ix k))) hx hb hX hC (cin rfl) rfl rfl (kin_of hw c_2) rfl dX0_change_32 ?_
        refine lv_istore (lv' := [(4, .int (d (93 + 4 * (ix k)))), (0, .ref (G.ad 5 0)), (1, .int k), (2, .int 1), (3, .int v)]) hx hb dX0_change_33 hl (by decide) rfl (fun ls hl => ?_)
        refine lv_aload_n hx hb dX0_change_35 rfl (lv_at hl 1 rfl) ?_
        refine fg_get (C := RX0) (T := TX0) (N := 13) (ci := 1) (g := 5) (i := 0) (v := .ref (G.ad 0 0)) hx hb hown hts hX hC in_X0 rfl (cin rfl) rfl 3 (by decide) q425 (fun _ h => h) rfl dX0_change_36 ?_
        refine fg_getN (C := RX4) (T := TX4) (N := 9) (ci := 0) (g := 0) (i := 0) (v := .ref (G.ad 0 5)) hx hb hown hts hX hC in_X4 rfl (cin rfl) rfl 5 (by decide) (hX.2.2.1.F q257) (fun _ h => h) rfl dX0_change_39 ?_
        refine lv_iload_n hx hb dX0_change_42 rfl (lv_at hl 3 rfl) ?_
        refine fg_ald (g := 0) (i := 5) (t0 := 1) (ty := .array .int) (v := .ref (G.ad 0 7)) hx hb hX hC (cin rfl) rfl rfl rfl (vin_b rfl) rfl dX0_change_43 ?_
        refine lv_iload_n hx hb dX0_change_44 rfl (lv_at hl 2 rfl) ?_
        refine lv_iload_n hx hb dX0_change_45 rfl (lv_at hl 4 rfl) ?_
        refine fg_iast (g := 0) (i := 7) (t0 := 0) hx hb hX hC (cin rfl) rfl rfl (kin_of hw c_2) (cct G (pg (upd d (93 + 4 * (ix k)) v) kp as un to sc fd tp sh) sp) (cs_r1 (k := ix k)) dX0_change_46 (fun H locs hC => ?_)
        refine lv_iload hx hb dX0_change_47 (lv_at hl 0 rfl) ?_
        have hs : s_change d fd k 1 v = ((d (93 + 4 * (ix k)), upd d (93 + 4 * (ix k)) v, fd) : Int32 × Row × Row) := by first | grind [s_change, ix_0, ix_1, ix_2, ix_3] | rfl
        exact fr_i hx hb hr hlocks hX hC () (congrArg (fun z => some (Value.int z)) (t3_1 hs)) ((congrArg (fun z => cct G (pg z kp as un to sc ((s_change d fd k 1 v).2.2) tp sh) sp) (t3_2 hs)).trans (congrArg (fun z => cct G (pg (upd d (93 + 4 * (ix k)) v) kp as un to sc z tp sh) sp) (t3_3 hs))).symm dX0_change_49
      · subst qq
        refine lv_iload_n hx hb dX0_change_29 rfl (lv_at hl 2 rfl) ?_
        refine fg_ald (g := 0) (i := 5) (t0 := 1) (ty := .array .int) (v := .ref (G.ad 0 8)) hx hb hX hC (cin rfl) rfl rfl rfl (vin_b rfl) rfl dX0_change_30 ?_
        refine lv_iload_n hx hb dX0_change_31 rfl (lv_at hl 1 rfl) ?_
        refine fg_iald (g := 0) (i := 8) (t0 := 0) (v := d (94 + 4 * (ix k))) hx hb hX hC (cin rfl) rfl rfl (kin_of hw c_2) rfl dX0_change_32 ?_
        refine lv_istore (lv' := [(4, .int (d (94 + 4 * (ix k)))), (0, .ref (G.ad 5 0)), (1, .int k), (2, .int 2), (3, .int v)]) hx hb dX0_change_33 hl (by decide) rfl (fun ls hl => ?_)
        refine lv_aload_n hx hb dX0_change_35 rfl (lv_at hl 1 rfl) ?_
        refine fg_get (C := RX0) (T := TX0) (N := 13) (ci := 1) (g := 5) (i := 0) (v := .ref (G.ad 0 0)) hx hb hown hts hX hC in_X0 rfl (cin rfl) rfl 3 (by decide) q425 (fun _ h => h) rfl dX0_change_36 ?_
        refine fg_getN (C := RX4) (T := TX4) (N := 9) (ci := 0) (g := 0) (i := 0) (v := .ref (G.ad 0 5)) hx hb hown hts hX hC in_X4 rfl (cin rfl) rfl 5 (by decide) (hX.2.2.1.F q257) (fun _ h => h) rfl dX0_change_39 ?_
        refine lv_iload_n hx hb dX0_change_42 rfl (lv_at hl 3 rfl) ?_
        refine fg_ald (g := 0) (i := 5) (t0 := 1) (ty := .array .int) (v := .ref (G.ad 0 8)) hx hb hX hC (cin rfl) rfl rfl rfl (vin_b rfl) rfl dX0_change_43 ?_
        refine lv_iload_n hx hb dX0_change_44 rfl (lv_at hl 2 rfl) ?_
        refine lv_iload_n hx hb dX0_change_45 rfl (lv_at hl 4 rfl) ?_
        refine fg_iast (g := 0) (i := 8) (t0 := 0) hx hb hX hC (cin rfl) rfl rfl (kin_of hw c_2) (cct G (pg (upd d (94 + 4 * (ix k)) v) kp as un to sc fd tp sh) sp) (cs_r2 (k := ix k)) dX0_change_46 (fun H locs hC => ?_)
        refine lv_iload hx hb dX0_change_47 (lv_at hl 0 rfl) ?_
        have hs : s_change d fd k 2 v = ((d (94 + 4 * (ix k)), upd d (94 + 4 * (ix k)) v, fd) : Int32 × Row × Row) := by first | grind [s_change, ix_0, ix_1, ix_2, ix_3] | rfl
        exact fr_i hx hb hr hlocks hX hC () (congrArg (fun z => some (Value.int z)) (t3_1 hs)) ((congrArg (fun z => cct G (pg z kp as un to sc ((s_change d fd k 2 v).2.2) tp sh) sp) (t3_2 hs)).trans (congrArg (fun z => cct G (pg (upd d (94 + 4 * (ix k)) v) kp as un to sc z tp sh) sp) (t3_3 hs))).symm dX0_change_49
      · subst qq
        refine lv_iload_n hx hb dX0_change_29 rfl (lv_at hl 2 rfl) ?_
        refine fg_ald (g := 0) (i := 5) (t0 := 1) (ty := .array .int) (v := .ref (G.ad 0 9)) hx hb hX hC (cin rfl) rfl rfl rfl (vin_b rfl) rfl dX0_change_30 ?_
        refine lv_iload_n hx hb dX0_change_31 rfl (lv_at hl 1 rfl) ?_
        refine fg_iald (g := 0) (i := 9) (t0 := 0) (v := d (95 + 4 * (ix k))) hx hb hX hC (cin rfl) rfl rfl (kin_of hw c_2) rfl dX0_change_32 ?_
        refine lv_istore (lv' := [(4, .int (d (95 + 4 * (ix k)))), (0, .ref (G.ad 5 0)), (1, .int k), (2, .int 3), (3, .int v)]) hx hb dX0_change_33 hl (by decide) rfl (fun ls hl => ?_)
        refine lv_aload_n hx hb dX0_change_35 rfl (lv_at hl 1 rfl) ?_
        refine fg_get (C := RX0) (T := TX0) (N := 13) (ci := 1) (g := 5) (i := 0) (v := .ref (G.ad 0 0)) hx hb hown hts hX hC in_X0 rfl (cin rfl) rfl 3 (by decide) q425 (fun _ h => h) rfl dX0_change_36 ?_
        refine fg_getN (C := RX4) (T := TX4) (N := 9) (ci := 0) (g := 0) (i := 0) (v := .ref (G.ad 0 5)) hx hb hown hts hX hC in_X4 rfl (cin rfl) rfl 5 (by decide) (hX.2.2.1.F q257) (fun _ h => h) rfl dX0_change_39 ?_
        refine lv_iload_n hx hb dX0_change_42 rfl (lv_at hl 3 rfl) ?_
        refine fg_ald (g := 0) (i := 5) (t0 := 1) (ty := .array .int) (v := .ref (G.ad 0 9)) hx hb hX hC (cin rfl) rfl rfl rfl (vin_b rfl) rfl dX0_change_43 ?_
        refine lv_iload_n hx hb dX0_change_44 rfl (lv_at hl 2 rfl) ?_
        refine lv_iload_n hx hb dX0_change_45 rfl (lv_at hl 4 rfl) ?_
        refine fg_iast (g := 0) (i := 9) (t0 := 0) hx hb hX hC (cin rfl) rfl rfl (kin_of hw c_2) (cct G (pg (upd d (95 + 4 * (ix k)) v) kp as un to sc fd tp sh) sp) (cs_r3 (k := ix k)) dX0_change_46 (fun H locs hC => ?_)
        refine lv_iload hx hb dX0_change_47 (lv_at hl 0 rfl) ?_
        have hs : s_change d fd k 3 v = ((d (95 + 4 * (ix k)), upd d (95 + 4 * (ix k)) v, fd) : Int32 × Row × Row) := by first | grind [s_change, ix_0, ix_1, ix_2, ix_3] | rfl
        exact fr_i hx hb hr hlocks hX hC () (congrArg (fun z => some (Value.int z)) (t3_1 hs)) ((congrArg (fun z => cct G (pg z kp as un to sc ((s_change d fd k 3 v).2.2) tp sh) sp) (t3_2 hs)).trans (congrArg (fun z => cct G (pg (upd d (95 + 4 * (ix k)) v) kp as un to sc z tp sh) sp) (t3_3 hs))).symm dX0_change_49
    · refine lv_aload_n hx hb dX0_change_16 rfl (lv_at hl 0 rfl) ?_
      refine lv_iconst (v := 0) hx hb dX0_change_17 rfl ?_
      refine fc_V (As := [.int 0]) (rest := []) hx hb hml hown hts hX hC (m_X0_finding 0 (vin_b rfl)) (lw_V q472 q474 qs2 q108 q475) hdV_X0_finding ⟨rfl, rfl⟩ ⟨Nat.le_of_ble_eq_true rfl, Nat.le_of_ble_eq_true rfl⟩ (fx_recv (g := 5) (i := 0) (ci := 1) (q := (RX0, TX0, 13)) hX hC (cin rfl) rfl rfl) hl.1 rfl (Nat.le_of_ble_eq_true rfl) ⟨Nat.zero_le _, Nat.zero_le _⟩ dX0_change_18 (fun _ H locs hC => ?_)
      refine W.eq (g2 := F0 m 21 ls [.int (-1000001)]) rfl ?_
      have hs : s_change d fd k what v = (((-1000001), d, p_find fd 0) : Int32 × Row × Row) := by first | grind [s_change, ix_0, ix_1, ix_2, ix_3] | rfl
      exact fr_i hx hb hr hlocks hX hC () (congrArg (fun z => some (Value.int z)) (t3_1 hs)) ((congrArg (fun z => cct G (pg z kp as un to sc ((s_change d fd k what v).2.2) tp sh) sp) (t3_2 hs)).trans (congrArg (fun z => cct G (pg d kp as un to sc z tp sh) sp) (t3_3 hs))).symm dX0_change_21
set_option maxRecDepth 100000 in
theorem m_X0_isMade {l : Launch} {G : Gc} {d kp as un to sc fd tp sh : Row} {sp : Nat → Option Nat} (hw : WF d) (k : Int32) (hk : vp_in k 8) : Cm l yX0_isMade (ws_ yX0_isMade cX0_isMade 2 (some .int)) ({ frames := 9, cells := 0, slots := 0, locals := 323 }) (cF G) [.ref (G.ad 5 0), .int k] (cct G (pg d kp as un to sc fd tp sh) sp) (fun _ : Unit => some (.int ((s_made d k).1))) (fun _ => cct G (pg ((s_made d k).2) kp as un to sc fd tp sh) sp) := by
  refine Cm.start (by decide) (Nat.le_of_ble_eq_true rfl) ?_
  intro p e s m below meth c hf hX hC ls hl
  obtain ⟨hx, hb, hr, hml, hown, hts, hlocks⟩ := hf
  have hl : lv_has ls 2 [(0, .ref (G.ad 5 0)), (1, .int k)] := hl
  have hown : s.vm.findClass "OwlEars" = some m.cls := hown
  refine lv_aload_n hx hb dX0_isMade_0 rfl (lv_at hl 0 rfl) ?_
  refine lv_aload_n hx hb dX0_isMade_1 rfl (lv_at hl 0 rfl) ?_
  refine lv_iload_n hx hb dX0_isMade_2 rfl (lv_at hl 1 rfl) ?_
  refine fc_V (As := [.int k]) (rest := [.ref (G.ad 5 0)]) hx hb hml hown hts hX hC (m_X0_takesOf hw k hk) (lw_V q575 q577 qs6 q108 q578) hdV_X0_takesOf ⟨rfl, rfl⟩ ⟨Nat.le_of_ble_eq_true rfl, Nat.le_of_ble_eq_true rfl⟩ (fx_recv (g := 5) (i := 0) (ci := 1) (q := (RX0, TX0, 13)) hX hC (cin rfl) rfl rfl) hl.1 rfl (Nat.le_of_ble_eq_true rfl) ⟨Nat.zero_le _, Nat.zero_le _⟩ dX0_isMade_3 (fun _ H locs hC => ?_)
  refine W.eq (g2 := F0 m 6 ls [.int (p_takes d k), .ref (G.ad 5 0)]) rfl ?_
  refine fc_V (As := [.int (p_takes d k)]) (rest := []) hx hb hml hown hts hX hC (m_X0_passes hw (p_takes d k)) (lw_V q710 q712 qs8 q108 q713) hdV_X0_passes ⟨rfl, rfl⟩ ⟨Nat.le_of_ble_eq_true rfl, Nat.le_of_ble_eq_true rfl⟩ (fx_recv (g := 5) (i := 0) (ci := 1) (q := (RX0, TX0, 13)) hX hC (cin rfl) rfl rfl) hl.1 rfl (Nat.le_of_ble_eq_true rfl) ⟨Nat.zero_le _, Nat.zero_le _⟩ dX0_isMade_6 (fun _ H locs hC => ?_)
  refine W.eq (g2 := F0 m 9 ls []) rfl ?_
  refine lv_aload_n hx hb dX0_isMade_9 rfl (lv_at hl 0 rfl) ?_
  refine lv_iload_n hx hb dX0_isMade_10 rfl (lv_at hl 1 rfl) ?_
  refine fc_V (As := [.int k]) (rest := []) hx hb hml hown hts hX hC (m_X0_hits (hw.ticks _) k hk) (lw_V q721 q723 qs9 q108 q724) hdV_X0_hits ⟨rfl, rfl⟩ ⟨Nat.le_of_ble_eq_true rfl, Nat.le_of_ble_eq_true rfl⟩ (fx_recv (g := 5) (i := 0) (ci := 1) (q := (RX0, TX0, 13)) hX hC (cin rfl) rfl rfl) hl.1 rfl (Nat.le_of_ble_eq_true rfl) ⟨Nat.zero_le _, Nat.zero_le _⟩ dX0_isMade_11 (fun _ H locs hC => ?_)
  refine W.eq (g2 := F0 m 14 ls [.int (b2i (p_hits (p_ticks (ix (p_takes d k)) d) k))]) rfl ?_
  refine fb_ne (tgt := 19) hx hb dX0_isMade_14 (by decide) (fun c_4 => ?_) (fun c_4 => ?_)
  · refine lv_aload_n hx hb dX0_isMade_19 rfl (lv_at hl 0 rfl) ?_
    refine fg_get (C := RX0) (T := TX0) (N := 13) (ci := 1) (g := 5) (i := 0) (v := .ref (G.ad 0 0)) hx hb hown hts hX hC in_X0 rfl (cin rfl) rfl 3 (by decide) q425 (fun _ h => h) rfl dX0_isMade_20 ?_
    refine fg_getN (C := RX4) (T := TX4) (N := 9) (ci := 0) (g := 0) (i := 0) (v := .ref (G.ad 0 5)) hx hb hown hts hX hC in_X4 rfl (cin rfl) rfl 5 (by decide) (hX.2.2.1.F q257) (fun _ h => h) rfl dX0_isMade_23 ?_
    refine lv_iconst (v := 3) hx hb dX0_isMade_26 rfl ?_
    refine fg_ald (g := 0) (i := 5) (t0 := 1) (ty := .array .int) (v := .ref (G.ad 0 9)) hx hb hX hC (cin rfl) rfl rfl rfl (vin_b rfl) rfl dX0_isMade_27 ?_
    refine lv_iload_n hx hb dX0_isMade_28 rfl (lv_at hl 1 rfl) ?_
    refine lv_sipush (v := 999) hx hb dX0_isMade_29 rfl ?_
    refine lv_aload_n hx hb dX0_isMade_32 rfl (lv_at hl 0 rfl) ?_
    refine fg_get (C := RX0) (T := TX0) (N := 13) (ci := 1) (g := 5) (i := 0) (v := .ref (G.ad 0 0)) hx hb hown hts hX hC in_X0 rfl (cin rfl) rfl 3 (by decide) q425 (fun _ h => h) rfl dX0_isMade_33 ?_
    refine fg_getN (C := RX4) (T := TX4) (N := 9) (ci := 0) (g := 0) (i := 0) (v := .ref (G.ad 0 5)) hx hb hown hts hX hC in_X4 rfl (cin rfl) rfl 5 (by decide) (hX.2.2.1.F q257) (fun _ h => h) rfl dX0_isMade_36 ?_
    refine lv_iconst (v := 3) hx hb dX0_isMade_39 rfl ?_
    refine fg_ald (g := 0) (i := 5) (t0 := 1) (ty := .array .int) (v := .ref (G.ad 0 9)) hx hb hX hC (cin rfl) rfl rfl rfl (vin_b rfl) rfl dX0_isMade_40 ?_
    refine lv_iload_n hx hb dX0_isMade_41 rfl (lv_at hl 1 rfl) ?_
    refine fg_iald (g := 0) (i := 9) (t0 := 0) (v := (p_ticks (ix (p_takes d k)) d) (95 + 4 * (ix k))) hx hb hX hC (cin rfl) rfl rfl hk rfl dX0_isMade_42 ?_
    refine lv_iconst (v := 1) hx hb dX0_isMade_43 rfl ?_
    refine lv_iadd hx hb dX0_isMade_44 ?_
    refine fw_min hx hb (hml.trans hl.1.symm) hown hts q791 (Nat.le_of_ble_eq_true rfl) (Nat.le_of_ble_eq_true rfl) (Nat.zero_le _) (Nat.zero_le _) q792 q125 q793 dX0_isMade_45 ?_
    refine fg_iast (g := 0) (i := 9) (t0 := 0) hx hb hX hC (cin rfl) rfl rfl hk (cct G (pg (upd (p_ticks (ix (p_takes d k)) d) (95 + 4 * (ix k)) (mn 999 (((p_ticks (ix (p_takes d k)) d) (95 + 4 * (ix k))) + 1))) kp as un to sc fd tp sh) sp) (cs_r3 (k := ix k)) dX0_isMade_48 (fun H locs hC => ?_)
    refine lv_aload_n hx hb dX0_isMade_49 rfl (lv_at hl 0 rfl) ?_
    refine fg_get (C := RX0) (T := TX0) (N := 13) (ci := 1) (g := 5) (i := 0) (v := .ref (G.ad 0 0)) hx hb hown hts hX hC in_X0 rfl (cin rfl) rfl 3 (by decide) q425 (fun _ h => h) rfl dX0_isMade_50 ?_
    refine fg_getN (C := RX4) (T := TX4) (N := 9) (ci := 0) (g := 0) (i := 0) (v := .ref (G.ad 0 3)) hx hb hown hts hX hC in_X4 rfl (cin rfl) rfl 2 (by decide) (hX.2.2.1.F q246) (fun _ h => h) rfl dX0_isMade_53 ?_
    refine lv_iconst (v := 0) hx hb dX0_isMade_56 rfl ?_
    refine lv_bipush (v := 35) hx hb dX0_isMade_57 rfl ?_
    refine lv_aload_n hx hb dX0_isMade_59 rfl (lv_at hl 0 rfl) ?_
    refine fg_get (C := RX0) (T := TX0) (N := 13) (ci := 1) (g := 5) (i := 0) (v := .ref (G.ad 0 0)) hx hb hown hts hX hC in_X0 rfl (cin rfl) rfl 3 (by decide) q425 (fun _ h => h) rfl dX0_isMade_60 ?_
    refine fg_getN (C := RX4) (T := TX4) (N := 9) (ci := 0) (g := 0) (i := 0) (v := .ref (G.ad 0 3)) hx hb hown hts hX hC in_X4 rfl (cin rfl) rfl 2 (by decide) (hX.2.2.1.F q246) (fun _ h => h) rfl dX0_isMade_63 ?_
    refine lv_iconst (v := 0) hx hb dX0_isMade_66 rfl ?_
    refine fg_iald (g := 0) (i := 3) (t0 := 0) (v := (p_ticks (ix (p_takes d k)) d) 3) hx hb hX hC (cin rfl) rfl rfl (vin_b rfl) (upd_n (j := 3) (by omega)) dX0_isMade_67 ?_
    refine lv_isub hx hb dX0_isMade_68 ?_
    refine fg_iast (g := 0) (i := 3) (t0 := 0) hx hb hX hC (cin rfl) rfl rfl (vin_b rfl) (cct G (pg (upd (upd (p_ticks (ix (p_takes d k)) d) (95 + 4 * (ix k)) (mn 999 (((p_ticks (ix (p_takes d k)) d) (95 + 4 * (ix k))) + 1))) 3 (35 - ((p_ticks (ix (p_takes d k)) d) 3))) kp as un to sc fd tp sh) sp) (cs_mouse (k := 0) (by decide)) dX0_isMade_69 (fun H locs hC => ?_)
    refine lv_aload_n hx hb dX0_isMade_70 rfl (lv_at hl 0 rfl) ?_
    refine fg_get (C := RX0) (T := TX0) (N := 13) (ci := 1) (g := 5) (i := 0) (v := .ref (G.ad 0 0)) hx hb hown hts hX hC in_X0 rfl (cin rfl) rfl 3 (by decide) q425 (fun _ h => h) rfl dX0_isMade_71 ?_
    refine fg_getN (C := RX4) (T := TX4) (N := 9) (ci := 0) (g := 0) (i := 0) (v := .ref (G.ad 0 3)) hx hb hown hts hX hC in_X4 rfl (cin rfl) rfl 2 (by decide) (hX.2.2.1.F q246) (fun _ h => h) rfl dX0_isMade_74 ?_
    refine lv_iconst (v := 4) hx hb dX0_isMade_77 rfl ?_
    refine lv_iconst (v := 0) hx hb dX0_isMade_78 rfl ?_
    refine fg_iast (g := 0) (i := 3) (t0 := 0) hx hb hX hC (cin rfl) rfl rfl (vin_b rfl) (cct G (pg (upd (upd (upd (p_ticks (ix (p_takes d k)) d) (95 + 4 * (ix k)) (mn 999 (((p_ticks (ix (p_takes d k)) d) (95 + 4 * (ix k))) + 1))) 3 (35 - ((p_ticks (ix (p_takes d k)) d) 3))) 7 0) kp as un to sc fd tp sh) sp) (cs_mouse (k := 4) (by decide)) dX0_isMade_79 (fun H locs hC => ?_)
    refine lv_iconst (v := 1) hx hb dX0_isMade_80 rfl ?_
    have hs : s_made d k = ((1, upd (upd (upd (p_ticks (ix (p_takes d k)) d) (95 + 4 * (ix k)) (mn 999 (((p_ticks (ix (p_takes d k)) d) (95 + 4 * (ix k))) + 1))) 3 (35 - ((p_ticks (ix (p_takes d k)) d) 3))) 7 0) : Int32 × Row) := by rw [s_made, if_pos c_4]
    exact fr_i hx hb hr hlocks hX hC () (congrArg (fun z => some (Value.int z)) (t2_1 hs)) (congrArg (fun z => cct G (pg z kp as un to sc fd tp sh) sp) (t2_2 hs)).symm dX0_isMade_81
  · refine lv_iconst (v := 0) hx hb dX0_isMade_17 rfl ?_
    have hs : s_made d k = ((0, p_ticks (ix (p_takes d k)) d) : Int32 × Row) := by rw [s_made, if_neg c_4]
    exact fr_i hx hb hr hlocks hX hC () (congrArg (fun z => some (Value.int z)) (t2_1 hs)) (congrArg (fun z => cct G (pg z kp as un to sc fd tp sh) sp) (t2_2 hs)).symm dX0_isMade_18
set_option maxRecDepth 100000 in
theorem m_X0_strikes {l : Launch} {G : Gc} {d kp as un to sc fd tp sh : Row} {sp : Nat → Option Nat} (hw : WF d) (k : Int32) : Cm l yX0_strikes (ws_ yX0_strikes cX0_strikes 2 (some .int)) ({ frames := 10, cells := 0, slots := 0, locals := 344 }) (cF G) [.ref (G.ad 5 0), .int k] (cct G (pg d kp as un to sc fd tp sh) sp) (fun _ : Unit => some (.int ((s_strikes d fd k).1))) (fun _ => cct G (pg ((s_strikes d fd k).2.1) kp as un to sc ((s_strikes d fd k).2.2) tp sh) sp) := by
  refine Cm.start (by decide) (Nat.le_of_ble_eq_true rfl) ?_
  intro p e s m below meth c hf hX hC ls hl
  obtain ⟨hx, hb, hr, hml, hown, hts, hlocks⟩ := hf
  have hl : lv_has ls 2 [(0, .ref (G.ad 5 0)), (1, .int k)] := hl
  have hown : s.vm.findClass "OwlEars" = some m.cls := hown
  refine lv_aload_n hx hb dX0_strikes_0 rfl (lv_at hl 0 rfl) ?_
  refine lv_iload_n hx hb dX0_strikes_1 rfl (lv_at hl 1 rfl) ?_
  refine fc_V (As := [.int k]) (rest := []) hx hb hml hown hts hX hC (m_X0_isStrike k) (lw_V q538 q540 qs4 q108 q541) hdV_X0_isStrike ⟨rfl, rfl⟩ ⟨Nat.le_of_ble_eq_true rfl, Nat.le_of_ble_eq_true rfl⟩ (fx_recv (g := 5) (i := 0) (ci := 1) (q := (RX0, TX0, 13)) hX hC (cin rfl) rfl rfl) hl.1 rfl (Nat.le_of_ble_eq_true rfl) ⟨Nat.zero_le _, Nat.zero_le _⟩ dX0_strikes_2 (fun _ H locs hC => ?_)
  refine W.eq (g2 := F0 m 5 ls [.int (b2i (p_in k 0 (d 1 - 1)))]) rfl ?_
  refine fb_ne (tgt := 14) hx hb dX0_strikes_5 (by decide) (fun c_2 => ?_) (fun c_2 => ?_)
  · refine lv_aload_n hx hb dX0_strikes_14 rfl (lv_at hl 0 rfl) ?_
    refine fg_get (C := RX0) (T := TX0) (N := 13) (ci := 1) (g := 5) (i := 0) (v := .ref (G.ad 0 0)) hx hb hown hts hX hC in_X0 rfl (cin rfl) rfl 3 (by decide) q425 (fun _ h => h) rfl dX0_strikes_15 ?_
    refine lv_aload_n hx hb dX0_strikes_18 rfl (lv_at hl 0 rfl) ?_
    refine lv_iload_n hx hb dX0_strikes_19 rfl (lv_at hl 1 rfl) ?_
    refine fc_V (As := [.int k]) (rest := [.ref (G.ad 0 0)]) hx hb hml hown hts hX hC (m_X0_takesOf hw k (kin_of hw c_2)) (lw_V q575 q577 qs6 q108 q578) hdV_X0_takesOf ⟨rfl, rfl⟩ ⟨Nat.le_of_ble_eq_true rfl, Nat.le_of_ble_eq_true rfl⟩ (fx_recv (g := 5) (i := 0) (ci := 1) (q := (RX0, TX0, 13)) hX hC (cin rfl) rfl rfl) hl.1 rfl (Nat.le_of_ble_eq_true rfl) ⟨Nat.zero_le _, Nat.zero_le _⟩ dX0_strikes_20 (fun _ H locs hC => ?_)
    refine W.eq (g2 := F0 m 23 ls [.int (p_takes d k), .ref (G.ad 0 0)]) rfl ?_
    refine fc_V (As := [.int (p_takes d k)]) (rest := []) hx hb hml hown hts hX hC (m_X4_isLate (p_takes d k)) (lw_V q782 q783 q784 q115 q785) hdV_X4_isLate ⟨rfl, rfl⟩ ⟨Nat.le_of_ble_eq_true rfl, Nat.le_of_ble_eq_true rfl⟩ (fx_recv (g := 0) (i := 0) (ci := 0) (q := (RX4, TX4, 9)) hX hC (cin rfl) rfl rfl) hl.1 rfl (Nat.le_of_ble_eq_true rfl) ⟨Nat.zero_le _, Nat.zero_le _⟩ dX0_strikes_23 (fun _ H locs hC => ?_)
    refine W.eq (g2 := F0 m 26 ls [.int (b2i (99999 < d 0 + (p_takes d k)))]) rfl ?_
    refine fb_eq (tgt := 37) hx hb dX0_strikes_26 (by decide) (fun c_5 => ?_) (fun c_5 => ?_)
    · refine lv_aload_n hx hb dX0_strikes_37 rfl (lv_at hl 0 rfl) ?_
      refine lv_iload_n hx hb dX0_strikes_38 rfl (lv_at hl 1 rfl) ?_
      refine fc_V (As := [.int k]) (rest := []) hx hb hml hown hts hX hC (m_X0_isMade hw k (kin_of hw c_2)) (lw_V q787 q789 qs10 q108 q790) hdV_X0_isMade ⟨rfl, rfl⟩ ⟨Nat.le_of_ble_eq_true rfl, Nat.le_of_ble_eq_true rfl⟩ (fx_recv (g := 5) (i := 0) (ci := 1) (q := (RX0, TX0, 13)) hX hC (cin rfl) rfl rfl) hl.1 rfl (Nat.le_of_ble_eq_true rfl) ⟨Nat.zero_le _, Nat.zero_le _⟩ dX0_strikes_39 (fun _ H locs hC => ?_)
      refine W.eq (g2 := F0 m 42 ls [.int ((s_made d k).1)]) rfl ?_
      have hs : s_strikes d fd k = (((s_made d k).1, (s_made d k).2, fd) : Int32 × Row × Row) := by first | grind [s_strikes] | rfl
      exact fr_i hx hb hr hlocks hX hC () (congrArg (fun z => some (Value.int z)) (t3_1 hs)) ((congrArg (fun z => cct G (pg z kp as un to sc ((s_strikes d fd k).2.2) tp sh) sp) (t3_2 hs)).trans (congrArg (fun z => cct G (pg ((s_made d k).2) kp as un to sc z tp sh) sp) (t3_3 hs))).symm dX0_strikes_42
    · refine lv_aload_n hx hb dX0_strikes_29 rfl (lv_at hl 0 rfl) ?_
      refine lv_iconst (v := 4) hx hb dX0_strikes_30 rfl ?_
      refine fc_V (As := [.int 4]) (rest := []) hx hb hml hown hts hX hC (m_X0_finding 4 (vin_b rfl)) (lw_V q472 q474 qs2 q108 q475) hdV_X0_finding ⟨rfl, rfl⟩ ⟨Nat.le_of_ble_eq_true rfl, Nat.le_of_ble_eq_true rfl⟩ (fx_recv (g := 5) (i := 0) (ci := 1) (q := (RX0, TX0, 13)) hX hC (cin rfl) rfl rfl) hl.1 rfl (Nat.le_of_ble_eq_true rfl) ⟨Nat.zero_le _, Nat.zero_le _⟩ dX0_strikes_31 (fun _ H locs hC => ?_)
      refine W.eq (g2 := F0 m 34 ls [.int (-1000005)]) rfl ?_
      refine lv_goto (tgt := 42) hx hb dX0_strikes_34 (by decide) ?_
      have hs : s_strikes d fd k = (((-1000005), d, p_find fd 4) : Int32 × Row × Row) := by first | grind [s_strikes] | rfl
      exact fr_i hx hb hr hlocks hX hC () (congrArg (fun z => some (Value.int z)) (t3_1 hs)) ((congrArg (fun z => cct G (pg z kp as un to sc ((s_strikes d fd k).2.2) tp sh) sp) (t3_2 hs)).trans (congrArg (fun z => cct G (pg d kp as un to sc z tp sh) sp) (t3_3 hs))).symm dX0_strikes_42
  · refine lv_aload_n hx hb dX0_strikes_8 rfl (lv_at hl 0 rfl) ?_
    refine lv_iconst (v := 0) hx hb dX0_strikes_9 rfl ?_
    refine fc_V (As := [.int 0]) (rest := []) hx hb hml hown hts hX hC (m_X0_finding 0 (vin_b rfl)) (lw_V q472 q474 qs2 q108 q475) hdV_X0_finding ⟨rfl, rfl⟩ ⟨Nat.le_of_ble_eq_true rfl, Nat.le_of_ble_eq_true rfl⟩ (fx_recv (g := 5) (i := 0) (ci := 1) (q := (RX0, TX0, 13)) hX hC (cin rfl) rfl rfl) hl.1 rfl (Nat.le_of_ble_eq_true rfl) ⟨Nat.zero_le _, Nat.zero_le _⟩ dX0_strikes_10 (fun _ H locs hC => ?_)
    refine W.eq (g2 := F0 m 13 ls [.int (-1000001)]) rfl ?_
    have hs : s_strikes d fd k = (((-1000001), d, p_find fd 0) : Int32 × Row × Row) := by first | grind [s_strikes] | rfl
    exact fr_i hx hb hr hlocks hX hC () (congrArg (fun z => some (Value.int z)) (t3_1 hs)) ((congrArg (fun z => cct G (pg z kp as un to sc ((s_strikes d fd k).2.2) tp sh) sp) (t3_2 hs)).trans (congrArg (fun z => cct G (pg d kp as un to sc z tp sh) sp) (t3_3 hs))).symm dX0_strikes_13
set_option maxRecDepth 100000 in
theorem m_X0_goesOn {l : Launch} {G : Gc} {d kp as un to sc fd tp sh : Row} {sp : Nat → Option Nat} (hw : WF d) (n : Int32) : Cm l yX0_goesOn (ws_ yX0_goesOn cX0_goesOn 2 (some .int)) ({ frames := 3, cells := 0, slots := 0, locals := 64 }) (cF G) [.ref (G.ad 5 0), .int n] (cct G (pg d kp as un to sc fd tp sh) sp) (fun _ : Unit => some (.int (p_ticks (ix n) d 3))) (fun _ => cct G (pg (p_ticks (ix n) d) kp as un to sc fd tp sh) sp) := by
  refine Cm.start (by decide) (Nat.le_of_ble_eq_true rfl) ?_
  intro p e s m below meth c hf hX hC ls hl
  obtain ⟨hx, hb, hr, hml, hown, hts, hlocks⟩ := hf
  have hl : lv_has ls 2 [(0, .ref (G.ad 5 0)), (1, .int n)] := hl
  have hown : s.vm.findClass "OwlEars" = some m.cls := hown
  refine lv_aload_n hx hb dX0_goesOn_0 rfl (lv_at hl 0 rfl) ?_
  refine lv_iload_n hx hb dX0_goesOn_1 rfl (lv_at hl 1 rfl) ?_
  refine fc_V (As := [.int n]) (rest := []) hx hb hml hown hts hX hC (m_X0_passes hw n) (lw_V q710 q712 qs8 q108 q713) hdV_X0_passes ⟨rfl, rfl⟩ ⟨Nat.le_of_ble_eq_true rfl, Nat.le_of_ble_eq_true rfl⟩ (fx_recv (g := 5) (i := 0) (ci := 1) (q := (RX0, TX0, 13)) hX hC (cin rfl) rfl rfl) hl.1 rfl (Nat.le_of_ble_eq_true rfl) ⟨Nat.zero_le _, Nat.zero_le _⟩ dX0_goesOn_2 (fun _ H locs hC => ?_)
  refine W.eq (g2 := F0 m 5 ls []) rfl ?_
  refine lv_aload_n hx hb dX0_goesOn_5 rfl (lv_at hl 0 rfl) ?_
  refine fg_get (C := RX0) (T := TX0) (N := 13) (ci := 1) (g := 5) (i := 0) (v := .ref (G.ad 0 0)) hx hb hown hts hX hC in_X0 rfl (cin rfl) rfl 3 (by decide) q425 (fun _ h => h) rfl dX0_goesOn_6 ?_
  refine fg_getN (C := RX4) (T := TX4) (N := 9) (ci := 0) (g := 0) (i := 0) (v := .ref (G.ad 0 3)) hx hb hown hts hX hC in_X4 rfl (cin rfl) rfl 2 (by decide) (hX.2.2.1.F q246) (fun _ h => h) rfl dX0_goesOn_9 ?_
  refine lv_iconst (v := 0) hx hb dX0_goesOn_12 rfl ?_
  refine fg_iald (g := 0) (i := 3) (t0 := 0) (v := (p_ticks (ix n) d) 3) hx hb hX hC (cin rfl) rfl rfl (vin_b rfl) rfl dX0_goesOn_13 ?_
  exact fr_i hx hb hr hlocks hX hC () (congrArg (fun z => some (Value.int z)) (by first | rfl | (simp []))) rfl dX0_goesOn_14
set_option maxRecDepth 100000 in
theorem m_X0_go {l : Launch} {G : Gc} {d kp as un to sc fd tp sh : Row} {sp : Nat → Option Nat} (hw : WF d) (n : Int32) : Cm l yX0_go (ws_ yX0_go cX0_go 2 (some .int)) ({ frames := 4, cells := 0, slots := 0, locals := 85 }) (cF G) [.ref (G.ad 5 0), .int n] (cct G (pg d kp as un to sc fd tp sh) sp) (fun _ : Unit => some (.int ((s_go d fd n).1))) (fun _ => cct G (pg ((s_go d fd n).2.1) kp as un to sc ((s_go d fd n).2.2) tp sh) sp) := by
  refine Cm.start (by decide) (Nat.le_of_ble_eq_true rfl) ?_
  intro p e s m below meth c hf hX hC ls hl
  obtain ⟨hx, hb, hr, hml, hown, hts, hlocks⟩ := hf
  have hl : lv_has ls 2 [(0, .ref (G.ad 5 0)), (1, .int n)] := hl
  have hown : s.vm.findClass "OwlEars" = some m.cls := hown
  refine lv_iload_n hx hb dX0_go_0 rfl (lv_at hl 1 rfl) ?_
  refine lv_iconst (v := 1) hx hb dX0_go_1 rfl ?_
  refine lv_bipush (v := 60) hx hb dX0_go_2 rfl ?_
  refine fc_S (As := [.int n, .int 1, .int 60]) (rest := []) hx hb hml hown hts hX hC (m_X0_in n 1 60) (lw_S q469 q470 q108 q471) hdS_X0_in ⟨rfl, rfl⟩ ⟨Nat.le_of_ble_eq_true rfl, Nat.le_of_ble_eq_true rfl⟩ hl.1 rfl (Nat.le_of_ble_eq_true rfl) ⟨Nat.zero_le _, Nat.zero_le _⟩ dX0_go_4 (fun _ H locs hC => ?_)
  refine W.eq (g2 := F0 m 7 ls [.int (b2i (p_in n 1 60))]) rfl ?_
  refine fb_ne (tgt := 16) hx hb dX0_go_7 (by decide) (fun c_2 => ?_) (fun c_2 => ?_)
  · refine lv_aload_n hx hb dX0_go_16 rfl (lv_at hl 0 rfl) ?_
    refine fg_get (C := RX0) (T := TX0) (N := 13) (ci := 1) (g := 5) (i := 0) (v := .ref (G.ad 0 0)) hx hb hown hts hX hC in_X0 rfl (cin rfl) rfl 3 (by decide) q425 (fun _ h => h) rfl dX0_go_17 ?_
    refine lv_iload_n hx hb dX0_go_20 rfl (lv_at hl 1 rfl) ?_
    refine fc_V (As := [.int n]) (rest := []) hx hb hml hown hts hX hC (m_X4_isLate n) (lw_V q782 q783 q784 q115 q785) hdV_X4_isLate ⟨rfl, rfl⟩ ⟨Nat.le_of_ble_eq_true rfl, Nat.le_of_ble_eq_true rfl⟩ (fx_recv (g := 0) (i := 0) (ci := 0) (q := (RX4, TX4, 9)) hX hC (cin rfl) rfl rfl) hl.1 rfl (Nat.le_of_ble_eq_true rfl) ⟨Nat.zero_le _, Nat.zero_le _⟩ dX0_go_21 (fun _ H locs hC => ?_)
    refine W.eq (g2 := F0 m 24 ls [.int (b2i (99999 < d 0 + n))]) rfl ?_
    refine fb_eq (tgt := 35) hx hb dX0_go_24 (by decide) (fun c_4 => ?_) (fun c_4 => ?_)
    · refine lv_aload_n hx hb dX0_go_35 rfl (lv_at hl 0 rfl) ?_
      refine lv_iload_n hx hb dX0_go_36 rfl (lv_at hl 1 rfl) ?_
      refine fc_V (As := [.int n]) (rest := []) hx hb hml hown hts hX hC (m_X0_goesOn hw n) (lw_V q798 q800 qs11 q108 q801) hdV_X0_goesOn ⟨rfl, rfl⟩ ⟨Nat.le_of_ble_eq_true rfl, Nat.le_of_ble_eq_true rfl⟩ (fx_recv (g := 5) (i := 0) (ci := 1) (q := (RX0, TX0, 13)) hX hC (cin rfl) rfl rfl) hl.1 rfl (Nat.le_of_ble_eq_true rfl) ⟨Nat.zero_le _, Nat.zero_le _⟩ dX0_go_37 (fun _ H locs hC => ?_)
      refine W.eq (g2 := F0 m 40 ls [.int (p_ticks (ix n) d 3)]) rfl ?_
      have hs : s_go d fd n = ((p_ticks (ix n) d 3, p_ticks (ix n) d, fd) : Int32 × Row × Row) := by first | grind [s_go] | rfl
      exact fr_i hx hb hr hlocks hX hC () (congrArg (fun z => some (Value.int z)) (t3_1 hs)) ((congrArg (fun z => cct G (pg z kp as un to sc ((s_go d fd n).2.2) tp sh) sp) (t3_2 hs)).trans (congrArg (fun z => cct G (pg (p_ticks (ix n) d) kp as un to sc z tp sh) sp) (t3_3 hs))).symm dX0_go_40
    · refine lv_aload_n hx hb dX0_go_27 rfl (lv_at hl 0 rfl) ?_
      refine lv_iconst (v := 4) hx hb dX0_go_28 rfl ?_
      refine fc_V (As := [.int 4]) (rest := []) hx hb hml hown hts hX hC (m_X0_finding 4 (vin_b rfl)) (lw_V q472 q474 qs2 q108 q475) hdV_X0_finding ⟨rfl, rfl⟩ ⟨Nat.le_of_ble_eq_true rfl, Nat.le_of_ble_eq_true rfl⟩ (fx_recv (g := 5) (i := 0) (ci := 1) (q := (RX0, TX0, 13)) hX hC (cin rfl) rfl rfl) hl.1 rfl (Nat.le_of_ble_eq_true rfl) ⟨Nat.zero_le _, Nat.zero_le _⟩ dX0_go_29 (fun _ H locs hC => ?_)
      refine W.eq (g2 := F0 m 32 ls [.int (-1000005)]) rfl ?_
      refine lv_goto (tgt := 40) hx hb dX0_go_32 (by decide) ?_
      have hs : s_go d fd n = (((-1000005), d, p_find fd 4) : Int32 × Row × Row) := by first | grind [s_go] | rfl
      exact fr_i hx hb hr hlocks hX hC () (congrArg (fun z => some (Value.int z)) (t3_1 hs)) ((congrArg (fun z => cct G (pg z kp as un to sc ((s_go d fd n).2.2) tp sh) sp) (t3_2 hs)).trans (congrArg (fun z => cct G (pg d kp as un to sc z tp sh) sp) (t3_3 hs))).symm dX0_go_40
  · refine lv_aload_n hx hb dX0_go_10 rfl (lv_at hl 0 rfl) ?_
    refine lv_iconst (v := 0) hx hb dX0_go_11 rfl ?_
    refine fc_V (As := [.int 0]) (rest := []) hx hb hml hown hts hX hC (m_X0_finding 0 (vin_b rfl)) (lw_V q472 q474 qs2 q108 q475) hdV_X0_finding ⟨rfl, rfl⟩ ⟨Nat.le_of_ble_eq_true rfl, Nat.le_of_ble_eq_true rfl⟩ (fx_recv (g := 5) (i := 0) (ci := 1) (q := (RX0, TX0, 13)) hX hC (cin rfl) rfl rfl) hl.1 rfl (Nat.le_of_ble_eq_true rfl) ⟨Nat.zero_le _, Nat.zero_le _⟩ dX0_go_12 (fun _ H locs hC => ?_)
    refine W.eq (g2 := F0 m 15 ls [.int (-1000001)]) rfl ?_
    have hs : s_go d fd n = (((-1000001), d, p_find fd 0) : Int32 × Row × Row) := by first | grind [s_go] | rfl
    exact fr_i hx hb hr hlocks hX hC () (congrArg (fun z => some (Value.int z)) (t3_1 hs)) ((congrArg (fun z => cct G (pg z kp as un to sc ((s_go d fd n).2.2) tp sh) sp) (t3_2 hs)).trans (congrArg (fun z => cct G (pg d kp as un to sc z tp sh) sp) (t3_3 hs))).symm dX0_go_15
set_option maxRecDepth 100000 in
theorem m_X0_now {l : Launch} {G : Gc} {d kp as un to sc fd tp sh : Row} {sp : Nat → Option Nat} (hw : WF d) (what : Int32) : Cm l yX0_now (ws_ yX0_now cX0_now 2 (some .int)) ({ frames := 11, cells := 0, slots := 0, locals := 368 }) (cF G) [.ref (G.ad 5 0), .int what] (cct G (pg d kp as un to sc fd tp sh) sp) (fun u : Row => some (.int ((s_now d fd what).1))) (fun u => cct G (pg d kp u un to sc ((s_now d fd what).2) tp sh) sp) := by
  refine Cm.start (by decide) (Nat.le_of_ble_eq_true rfl) ?_
  intro p e s m below meth c hf hX hC ls hl
  obtain ⟨hx, hb, hr, hml, hown, hts, hlocks⟩ := hf
  have hl : lv_has ls 2 [(0, .ref (G.ad 5 0)), (1, .int what)] := hl
  have hown : s.vm.findClass "OwlEars" = some m.cls := hown
  refine lv_iload_n hx hb dX0_now_0 rfl (lv_at hl 1 rfl) ?_
  by_cases c_1 : what = 0
  · refine lv_tableIn (off := 39) (tgt := 40) hx hb dX0_now_1 (by rw [c_1]; decide) (by rw [c_1]; decide) (by rw [c_1]; rfl) (by decide) ?_
    refine lv_aload_n hx hb dX0_now_40 rfl (lv_at hl 0 rfl) ?_
    refine fg_get (C := RX0) (T := TX0) (N := 13) (ci := 1) (g := 5) (i := 0) (v := .ref (G.ad 0 0)) hx hb hown hts hX hC in_X0 rfl (cin rfl) rfl 3 (by decide) q425 (fun _ h => h) rfl dX0_now_41 ?_
    refine fg_getN (C := RX4) (T := TX4) (N := 9) (ci := 0) (g := 0) (i := 0) (v := .int (d 0)) hx hb hown hts hX hC in_X4 rfl (cin rfl) rfl 6 (by decide) (hX.2.2.1.F q259) (fun _ h => h) rfl dX0_now_44 ?_
    have hs : s_now d fd what = ((d 0, fd) : Int32 × Row) := by first | grind [s_now, b2i] | rfl
    exact fr_i hx hb hr hlocks hX hC as (congrArg (fun z => some (Value.int z)) (t2_1 hs)) (congrArg (fun z => cct G (pg d kp as un to sc z tp sh) sp) (t2_2 hs)).symm dX0_now_47
  by_cases c_2 : what = 1
  · refine lv_tableIn (off := 47) (tgt := 48) hx hb dX0_now_1 (by rw [c_2]; decide) (by rw [c_2]; decide) (by rw [c_2]; rfl) (by decide) ?_
    refine lv_aload_n hx hb dX0_now_48 rfl (lv_at hl 0 rfl) ?_
    refine fg_get (C := RX0) (T := TX0) (N := 13) (ci := 1) (g := 5) (i := 0) (v := .ref (G.ad 0 0)) hx hb hown hts hX hC in_X0 rfl (cin rfl) rfl 3 (by decide) q425 (fun _ h => h) rfl dX0_now_49 ?_
    refine fc_V (As := []) (rest := []) hx hb hml hown hts hX hC (m_X4_hears hw) (lw_V q806 q807 q808 q115 q809) hdV_X4_hears ⟨rfl, rfl⟩ ⟨Nat.le_of_ble_eq_true rfl, Nat.le_of_ble_eq_true rfl⟩ (fx_recv (g := 0) (i := 0) (ci := 0) (q := (RX4, TX4, 9)) hX hC (cin rfl) rfl rfl) hl.1 rfl (Nat.le_of_ble_eq_true rfl) ⟨Nat.zero_le _, Nat.zero_le _⟩ dX0_now_52 (fun _ H locs hC => ?_)
    refine W.eq (g2 := F0 m 55 ls [.int (b2i (p_hears d))]) rfl ?_
    refine fb_eq (tgt := 62) hx hb dX0_now_55 (by decide) (fun c_4 => ?_) (fun c_4 => ?_)
    · refine lv_iconst (v := 0) hx hb dX0_now_62 rfl ?_
      have hs : s_now d fd what = ((0, fd) : Int32 × Row) := by first | grind [s_now, b2i] | rfl
      exact fr_i hx hb hr hlocks hX hC as (congrArg (fun z => some (Value.int z)) (t2_1 hs)) (congrArg (fun z => cct G (pg d kp as un to sc z tp sh) sp) (t2_2 hs)).symm dX0_now_63
    · refine lv_iconst (v := 1) hx hb dX0_now_58 rfl ?_
      refine lv_goto (tgt := 63) hx hb dX0_now_59 (by decide) ?_
      have hs : s_now d fd what = ((1, fd) : Int32 × Row) := by first | grind [s_now, b2i] | rfl
      exact fr_i hx hb hr hlocks hX hC as (congrArg (fun z => some (Value.int z)) (t2_1 hs)) (congrArg (fun z => cct G (pg d kp as un to sc z tp sh) sp) (t2_2 hs)).symm dX0_now_63
  by_cases c_5 : what = 2
  · refine lv_tableIn (off := 63) (tgt := 64) hx hb dX0_now_1 (by rw [c_5]; decide) (by rw [c_5]; decide) (by rw [c_5]; rfl) (by decide) ?_
    refine lv_aload_n hx hb dX0_now_64 rfl (lv_at hl 0 rfl) ?_
    refine fc_V (As := []) (rest := []) hx hb hml hown hts hX hC (m_X0_havingIt hw) (lw_V q826 q828 qs13 q108 q829) hdV_X0_havingIt ⟨rfl, rfl⟩ ⟨Nat.le_of_ble_eq_true rfl, Nat.le_of_ble_eq_true rfl⟩ (fx_recv (g := 5) (i := 0) (ci := 1) (q := (RX0, TX0, 13)) hX hC (cin rfl) rfl rfl) hl.1 rfl (Nat.le_of_ble_eq_true rfl) ⟨Nat.zero_le _, Nat.zero_le _⟩ dX0_now_65 (fun u_6 H locs hC => ?_)
    refine W.eq (g2 := F0 m 68 ls [.int (p_having d)]) rfl ?_
    have hs : s_now d fd what = ((p_having d, fd) : Int32 × Row) := by first | grind [s_now, b2i] | rfl
    exact fr_i hx hb hr hlocks hX hC u_6 (congrArg (fun z => some (Value.int z)) (t2_1 hs)) (congrArg (fun z => cct G (pg d kp u_6 un to sc z tp sh) sp) (t2_2 hs)).symm dX0_now_68
  by_cases c_7 : what = 3
  · refine lv_tableIn (off := 68) (tgt := 69) hx hb dX0_now_1 (by rw [c_7]; decide) (by rw [c_7]; decide) (by rw [c_7]; rfl) (by decide) ?_
    refine lv_aload_n hx hb dX0_now_69 rfl (lv_at hl 0 rfl) ?_
    refine fg_get (C := RX0) (T := TX0) (N := 13) (ci := 1) (g := 5) (i := 0) (v := .ref (G.ad 0 0)) hx hb hown hts hX hC in_X0 rfl (cin rfl) rfl 3 (by decide) q425 (fun _ h => h) rfl dX0_now_70 ?_
    refine fc_V (As := []) (rest := []) hx hb hml hown hts hX hC (m_X4_had hw) (lw_V q830 q831 q832 q115 q833) hdV_X4_had ⟨rfl, rfl⟩ ⟨Nat.le_of_ble_eq_true rfl, Nat.le_of_ble_eq_true rfl⟩ (fx_recv (g := 0) (i := 0) (ci := 0) (q := (RX4, TX4, 9)) hX hC (cin rfl) rfl rfl) hl.1 rfl (Nat.le_of_ble_eq_true rfl) ⟨Nat.zero_le _, Nat.zero_le _⟩ dX0_now_73 (fun _ H locs hC => ?_)
    refine W.eq (g2 := F0 m 76 ls [.int (p_sum (fun k => d (95 + 4 * k)) (ix (d 1)))]) rfl ?_
    have hs : s_now d fd what = ((p_sum (fun k => d (95 + 4 * k)) (ix (d 1)), fd) : Int32 × Row) := by first | grind [s_now, b2i] | rfl
    exact fr_i hx hb hr hlocks hX hC as (congrArg (fun z => some (Value.int z)) (t2_1 hs)) (congrArg (fun z => cct G (pg d kp as un to sc z tp sh) sp) (t2_2 hs)).symm dX0_now_76
  by_cases c_9 : what = 4
  · refine lv_tableIn (off := 76) (tgt := 77) hx hb dX0_now_1 (by rw [c_9]; decide) (by rw [c_9]; decide) (by rw [c_9]; rfl) (by decide) ?_
    refine lv_aload_n hx hb dX0_now_77 rfl (lv_at hl 0 rfl) ?_
    refine fg_get (C := RX0) (T := TX0) (N := 13) (ci := 1) (g := 5) (i := 0) (v := .ref (G.ad 0 0)) hx hb hown hts hX hC in_X0 rfl (cin rfl) rfl 3 (by decide) q425 (fun _ h => h) rfl dX0_now_78 ?_
    refine fc_V (As := []) (rest := []) hx hb hml hown hts hX hC (m_X4_snows) (lw_V q834 q835 q836 q115 q837) hdV_X4_snows ⟨rfl, rfl⟩ ⟨Nat.le_of_ble_eq_true rfl, Nat.le_of_ble_eq_true rfl⟩ (fx_recv (g := 0) (i := 0) (ci := 0) (q := (RX4, TX4, 9)) hX hC (cin rfl) rfl rfl) hl.1 rfl (Nat.le_of_ble_eq_true rfl) ⟨Nat.zero_le _, Nat.zero_le _⟩ dX0_now_81 (fun _ H locs hC => ?_)
    refine W.eq (g2 := F0 m 84 ls [.int (p_sum (fun k => d (20 + k)) 36)]) rfl ?_
    have hs : s_now d fd what = ((p_sum (fun k => d (20 + k)) 36, fd) : Int32 × Row) := by first | grind [s_now, b2i] | rfl
    exact fr_i hx hb hr hlocks hX hC as (congrArg (fun z => some (Value.int z)) (t2_1 hs)) (congrArg (fun z => cct G (pg d kp as un to sc z tp sh) sp) (t2_2 hs)).symm dX0_now_84
  by_cases c_11 : what = 5
  · refine lv_tableIn (off := 84) (tgt := 85) hx hb dX0_now_1 (by rw [c_11]; decide) (by rw [c_11]; decide) (by rw [c_11]; rfl) (by decide) ?_
    refine lv_aload_n hx hb dX0_now_85 rfl (lv_at hl 0 rfl) ?_
    refine fg_get (C := RX0) (T := TX0) (N := 13) (ci := 1) (g := 5) (i := 0) (v := .ref (G.ad 0 0)) hx hb hown hts hX hC in_X0 rfl (cin rfl) rfl 3 (by decide) q425 (fun _ h => h) rfl dX0_now_86 ?_
    refine fg_getN (C := RX4) (T := TX4) (N := 9) (ci := 0) (g := 0) (i := 0) (v := .ref (G.ad 0 4)) hx hb hown hts hX hC in_X4 rfl (cin rfl) rfl 3 (by decide) (hX.2.2.1.F q250) (fun _ h => h) rfl dX0_now_89 ?_
    refine lv_iconst (v := 0) hx hb dX0_now_92 rfl ?_
    refine fg_iald (g := 0) (i := 4) (t0 := 0) (v := d 8) hx hb hX hC (cin rfl) rfl rfl (vin_b rfl) rfl dX0_now_93 ?_
    refine lv_aload_n hx hb dX0_now_94 rfl (lv_at hl 0 rfl) ?_
    refine fg_get (C := RX0) (T := TX0) (N := 13) (ci := 1) (g := 5) (i := 0) (v := .ref (G.ad 0 0)) hx hb hown hts hX hC in_X0 rfl (cin rfl) rfl 3 (by decide) q425 (fun _ h => h) rfl dX0_now_95 ?_
    refine fg_getN (C := RX4) (T := TX4) (N := 9) (ci := 0) (g := 0) (i := 0) (v := .ref (G.ad 0 3)) hx hb hown hts hX hC in_X4 rfl (cin rfl) rfl 2 (by decide) (hX.2.2.1.F q246) (fun _ h => h) rfl dX0_now_98 ?_
    refine lv_iconst (v := 0) hx hb dX0_now_101 rfl ?_
    refine fg_iald (g := 0) (i := 3) (t0 := 0) (v := d 3) hx hb hX hC (cin rfl) rfl rfl (vin_b rfl) rfl dX0_now_102 ?_
    refine fc_S (As := [.int (d 8), .int (d 3)]) (rest := []) hx hb hml hown hts hX hC (m_X0_apart (d 8) (d 3)) (lw_S q725 q497 q108 q498) hdS_X0_apart ⟨rfl, rfl⟩ ⟨Nat.le_of_ble_eq_true rfl, Nat.le_of_ble_eq_true rfl⟩ hl.1 rfl (Nat.le_of_ble_eq_true rfl) ⟨Nat.zero_le _, Nat.zero_le _⟩ dX0_now_103 (fun _ H locs hC => ?_)
    refine W.eq (g2 := F0 m 106 ls [.int (p_apart (d 8) (d 3))]) rfl ?_
    have hs : s_now d fd what = ((p_apart (d 8) (d 3), fd) : Int32 × Row) := by first | grind [s_now, b2i] | rfl
    exact fr_i hx hb hr hlocks hX hC as (congrArg (fun z => some (Value.int z)) (t2_1 hs)) (congrArg (fun z => cct G (pg d kp as un to sc z tp sh) sp) (t2_2 hs)).symm dX0_now_106
  refine lv_tableOut (tgt := 107) hx hb dX0_now_1 (tabo 0 6 (by decide) (fun k hk => match k, hk with | 0, _ => c_1 | 1, _ => c_2 | 2, _ => c_5 | 3, _ => c_7 | 4, _ => c_9 | 5, _ => c_11) rfl) (by decide) ?_
  refine lv_aload_n hx hb dX0_now_107 rfl (lv_at hl 0 rfl) ?_
  refine lv_iconst (v := 0) hx hb dX0_now_108 rfl ?_
  refine fc_V (As := [.int 0]) (rest := []) hx hb hml hown hts hX hC (m_X0_finding 0 (vin_b rfl)) (lw_V q472 q474 qs2 q108 q475) hdV_X0_finding ⟨rfl, rfl⟩ ⟨Nat.le_of_ble_eq_true rfl, Nat.le_of_ble_eq_true rfl⟩ (fx_recv (g := 5) (i := 0) (ci := 1) (q := (RX0, TX0, 13)) hX hC (cin rfl) rfl rfl) hl.1 rfl (Nat.le_of_ble_eq_true rfl) ⟨Nat.zero_le _, Nat.zero_le _⟩ dX0_now_109 (fun _ H locs hC => ?_)
  refine W.eq (g2 := F0 m 112 ls [.int (-1000001)]) rfl ?_
  have hs : s_now d fd what = (((-1000001), p_find fd 0) : Int32 × Row) := by first | grind [s_now, b2i] | rfl
  exact fr_i hx hb hr hlocks hX hC as (congrArg (fun z => some (Value.int z)) (t2_1 hs)) (congrArg (fun z => cct G (pg d kp as un to sc z tp sh) sp) (t2_2 hs)).symm dX0_now_112
set_option maxRecDepth 100000 in
theorem m_X0_ear {l : Launch} {G : Gc} {d kp as un to sc fd tp sh : Row} {sp : Nat → Option Nat} (hw : WF d) (what : Int32) : Cm l yX0_ear (ws_ yX0_ear cX0_ear 2 (some .int)) ({ frames := 4, cells := 0, slots := 0, locals := 81 }) (cF G) [.ref (G.ad 5 0), .int what] (cct G (pg d kp as un to sc fd tp sh) sp) (fun _ : Unit => some (.int ((s_ear d fd what).1))) (fun _ => cct G (pg d kp as un to sc ((s_ear d fd what).2) tp sh) sp) := by
  refine Cm.start (by decide) (Nat.le_of_ble_eq_true rfl) ?_
  intro p e s m below meth c hf hX hC ls hl
  obtain ⟨hx, hb, hr, hml, hown, hts, hlocks⟩ := hf
  have hl : lv_has ls 2 [(0, .ref (G.ad 5 0)), (1, .int what)] := hl
  have hown : s.vm.findClass "OwlEars" = some m.cls := hown
  refine lv_iload_n hx hb dX0_ear_0 rfl (lv_at hl 1 rfl) ?_
  refine lv_iconst (v := 0) hx hb dX0_ear_1 rfl ?_
  refine lv_iconst (v := 1) hx hb dX0_ear_2 rfl ?_
  refine fc_S (As := [.int what, .int 0, .int 1]) (rest := []) hx hb hml hown hts hX hC (m_X0_in what 0 1) (lw_S q469 q470 q108 q471) hdS_X0_in ⟨rfl, rfl⟩ ⟨Nat.le_of_ble_eq_true rfl, Nat.le_of_ble_eq_true rfl⟩ hl.1 rfl (Nat.le_of_ble_eq_true rfl) ⟨Nat.zero_le _, Nat.zero_le _⟩ dX0_ear_3 (fun _ H locs hC => ?_)
  refine W.eq (g2 := F0 m 6 ls [.int (b2i (p_in what 0 1))]) rfl ?_
  refine fb_ne (tgt := 15) hx hb dX0_ear_6 (by decide) (fun c_2 => ?_) (fun c_2 => ?_)
  · refine lv_aload_n hx hb dX0_ear_15 rfl (lv_at hl 0 rfl) ?_
    refine fg_get (C := RX0) (T := TX0) (N := 13) (ci := 1) (g := 5) (i := 0) (v := .ref (G.ad 0 0)) hx hb hown hts hX hC in_X0 rfl (cin rfl) rfl 3 (by decide) q425 (fun _ h => h) rfl dX0_ear_16 ?_
    refine fc_V (As := []) (rest := []) hx hb hml hown hts hX hC (m_X4_hears hw) (lw_V q806 q807 q808 q115 q809) hdV_X4_hears ⟨rfl, rfl⟩ ⟨Nat.le_of_ble_eq_true rfl, Nat.le_of_ble_eq_true rfl⟩ (fx_recv (g := 0) (i := 0) (ci := 0) (q := (RX4, TX4, 9)) hX hC (cin rfl) rfl rfl) hl.1 rfl (Nat.le_of_ble_eq_true rfl) ⟨Nat.zero_le _, Nat.zero_le _⟩ dX0_ear_19 (fun _ H locs hC => ?_)
    refine W.eq (g2 := F0 m 22 ls [.int (b2i (p_hears d))]) rfl ?_
    refine fb_ne (tgt := 31) hx hb dX0_ear_22 (by decide) (fun c_4 => ?_) (fun c_4 => ?_)
    · refine lv_iload_n hx hb dX0_ear_31 rfl (lv_at hl 1 rfl) ?_
      refine lv_if_ne (tgt := 45) hx hb dX0_ear_32 (by decide) (fun c_5 => ?_) (fun c_5 => ?_)
      · refine lv_aload_n hx hb dX0_ear_45 rfl (lv_at hl 0 rfl) ?_
        refine fg_get (C := RX0) (T := TX0) (N := 13) (ci := 1) (g := 5) (i := 0) (v := .ref (G.ad 0 0)) hx hb hown hts hX hC in_X0 rfl (cin rfl) rfl 3 (by decide) q425 (fun _ h => h) rfl dX0_ear_46 ?_
        refine fc_V (As := []) (rest := []) hx hb hml hown hts hX hC (m_X4_high) (lw_V q843 q816 q817 q115 q818) hdV_X4_high ⟨rfl, rfl⟩ ⟨Nat.le_of_ble_eq_true rfl, Nat.le_of_ble_eq_true rfl⟩ (fx_recv (g := 0) (i := 0) (ci := 0) (q := (RX4, TX4, 9)) hX hC (cin rfl) rfl rfl) hl.1 rfl (Nat.le_of_ble_eq_true rfl) ⟨Nat.zero_le _, Nat.zero_le _⟩ dX0_ear_49 (fun _ H locs hC => ?_)
        refine W.eq (g2 := F0 m 52 ls [.int (p_high d)]) rfl ?_
        have hs : s_ear d fd what = ((p_high d, fd) : Int32 × Row) := by first | grind [s_ear] | rfl
        exact fr_i hx hb hr hlocks hX hC () (congrArg (fun z => some (Value.int z)) (t2_1 hs)) (congrArg (fun z => cct G (pg d kp as un to sc z tp sh) sp) (t2_2 hs)).symm dX0_ear_52
      · refine lv_aload_n hx hb dX0_ear_35 rfl (lv_at hl 0 rfl) ?_
        refine fg_get (C := RX0) (T := TX0) (N := 13) (ci := 1) (g := 5) (i := 0) (v := .ref (G.ad 0 0)) hx hb hown hts hX hC in_X0 rfl (cin rfl) rfl 3 (by decide) q425 (fun _ h => h) rfl dX0_ear_36 ?_
        refine fc_V (As := []) (rest := []) hx hb hml hown hts hX hC (m_X4_side) (lw_V q842 q823 q824 q115 q825) hdV_X4_side ⟨rfl, rfl⟩ ⟨Nat.le_of_ble_eq_true rfl, Nat.le_of_ble_eq_true rfl⟩ (fx_recv (g := 0) (i := 0) (ci := 0) (q := (RX4, TX4, 9)) hX hC (cin rfl) rfl rfl) hl.1 rfl (Nat.le_of_ble_eq_true rfl) ⟨Nat.zero_le _, Nat.zero_le _⟩ dX0_ear_39 (fun _ H locs hC => ?_)
        refine W.eq (g2 := F0 m 42 ls [.int (p_side d)]) rfl ?_
        refine lv_goto (tgt := 52) hx hb dX0_ear_42 (by decide) ?_
        have hs : s_ear d fd what = ((p_side d, fd) : Int32 × Row) := by first | grind [s_ear] | rfl
        exact fr_i hx hb hr hlocks hX hC () (congrArg (fun z => some (Value.int z)) (t2_1 hs)) (congrArg (fun z => cct G (pg d kp as un to sc z tp sh) sp) (t2_2 hs)).symm dX0_ear_52
    · refine lv_aload_n hx hb dX0_ear_25 rfl (lv_at hl 0 rfl) ?_
      refine lv_iconst (v := 3) hx hb dX0_ear_26 rfl ?_
      refine fc_V (As := [.int 3]) (rest := []) hx hb hml hown hts hX hC (m_X0_finding 3 (vin_b rfl)) (lw_V q472 q474 qs2 q108 q475) hdV_X0_finding ⟨rfl, rfl⟩ ⟨Nat.le_of_ble_eq_true rfl, Nat.le_of_ble_eq_true rfl⟩ (fx_recv (g := 5) (i := 0) (ci := 1) (q := (RX0, TX0, 13)) hX hC (cin rfl) rfl rfl) hl.1 rfl (Nat.le_of_ble_eq_true rfl) ⟨Nat.zero_le _, Nat.zero_le _⟩ dX0_ear_27 (fun _ H locs hC => ?_)
      refine W.eq (g2 := F0 m 30 ls [.int (-1000004)]) rfl ?_
      have hs : s_ear d fd what = (((-1000004), p_find fd 3) : Int32 × Row) := by first | grind [s_ear] | rfl
      exact fr_i hx hb hr hlocks hX hC () (congrArg (fun z => some (Value.int z)) (t2_1 hs)) (congrArg (fun z => cct G (pg d kp as un to sc z tp sh) sp) (t2_2 hs)).symm dX0_ear_30
  · refine lv_aload_n hx hb dX0_ear_9 rfl (lv_at hl 0 rfl) ?_
    refine lv_iconst (v := 0) hx hb dX0_ear_10 rfl ?_
    refine fc_V (As := [.int 0]) (rest := []) hx hb hml hown hts hX hC (m_X0_finding 0 (vin_b rfl)) (lw_V q472 q474 qs2 q108 q475) hdV_X0_finding ⟨rfl, rfl⟩ ⟨Nat.le_of_ble_eq_true rfl, Nat.le_of_ble_eq_true rfl⟩ (fx_recv (g := 5) (i := 0) (ci := 1) (q := (RX0, TX0, 13)) hX hC (cin rfl) rfl rfl) hl.1 rfl (Nat.le_of_ble_eq_true rfl) ⟨Nat.zero_le _, Nat.zero_le _⟩ dX0_ear_11 (fun _ H locs hC => ?_)
    refine W.eq (g2 := F0 m 14 ls [.int (-1000001)]) rfl ?_
    have hs : s_ear d fd what = (((-1000001), p_find fd 0) : Int32 × Row) := by first | grind [s_ear] | rfl
    exact fr_i hx hb hr hlocks hX hC () (congrArg (fun z => some (Value.int z)) (t2_1 hs)) (congrArg (fun z => cct G (pg d kp as un to sc z tp sh) sp) (t2_2 hs)).symm dX0_ear_14
set_option maxRecDepth 100000 in
theorem m_X0_cellBehind {l : Launch} {G : Gc} {d kp as un to sc fd tp sh : Row} {sp : Nat → Option Nat} (hw : WF d) (n : Int32) : Cm l yX0_cellBehind (wsW_ yX0_cellBehind cX0_cellBehind 4 (some .int) [(11, 17, 30, 0)]) ({ frames := 4, cells := 0, slots := 0, locals := 103 }) (cF G) [.ref (G.ad 5 0), .int n] (cct G (pg d kp as un to sc fd tp sh) sp) (fun _ : Unit => some (.int (p_ticks (ix n) d 3))) (fun _ => cct G (pg d kp d un to sc fd tp sh) sp) := by
  refine Cm.startW (by decide) (Nat.le_of_ble_eq_true rfl) ?_
  intro p e s m below meth c hf hX hC ls hl
  obtain ⟨hx, hb, hr, hml, hown, hts, hlocks⟩ := hf
  have hl : lv_has ls 4 [(0, .ref (G.ad 5 0)), (1, .int n)] := hl
  have hown : s.vm.findClass "OwlEars" = some m.cls := hown
  refine lv_aload_n hx hb dX0_cellBehind_0 rfl (lv_at hl 0 rfl) ?_
  refine fg_get (C := RX0) (T := TX0) (N := 13) (ci := 1) (g := 5) (i := 0) (v := .ref (G.ad 2 0)) hx hb hown hts hX hC in_X0 rfl (cin rfl) rfl 5 (by decide) q427 (fun _ h => h) rfl dX0_cellBehind_1 ?_
  refine lv_aload_n hx hb dX0_cellBehind_4 rfl (lv_at hl 0 rfl) ?_
  refine fg_get (C := RX0) (T := TX0) (N := 13) (ci := 1) (g := 5) (i := 0) (v := .ref (G.ad 0 0)) hx hb hown hts hX hC in_X0 rfl (cin rfl) rfl 3 (by decide) q425 (fun _ h => h) rfl dX0_cellBehind_5 ?_
  refine fc_V (As := [.ref (G.ad 0 0)]) (rest := []) hx hb hml hown hts hX hC (m_X4_become_20) (lw_V q700 q701 q702 q115 q703) hdV_X4_become ⟨rfl, rfl⟩ ⟨Nat.le_of_ble_eq_true rfl, Nat.le_of_ble_eq_true rfl⟩ (fx_recv (g := 2) (i := 0) (ci := 0) (q := (RX4, TX4, 9)) hX hC (cin rfl) rfl rfl) hl.1 rfl (Nat.le_of_ble_eq_true rfl) ⟨Nat.zero_le _, Nat.zero_le _⟩ dX0_cellBehind_8 (fun _ H locs hC => ?_)
  refine W.eq (g2 := F0 m 11 ls []) rfl ?_
  refine lv_aload_n hx hb dX0_cellBehind_11 rfl (lv_at hl 0 rfl) ?_
  refine lv_iload_n hx hb dX0_cellBehind_12 rfl (lv_at hl 1 rfl) ?_
  refine fc_V (As := [.int n]) (rest := []) hx hb hml hown hts hX hC (m_X0_goesOn hw n) (lw_V q798 q800 qs11 q108 q801) hdV_X0_goesOn ⟨rfl, rfl⟩ ⟨Nat.le_of_ble_eq_true rfl, Nat.le_of_ble_eq_true rfl⟩ (fx_recv (g := 5) (i := 0) (ci := 1) (q := (RX0, TX0, 13)) hX hC (cin rfl) rfl rfl) hl.1 rfl (Nat.le_of_ble_eq_true rfl) ⟨Nat.zero_le _, Nat.zero_le _⟩ dX0_cellBehind_13 (fun _ H locs hC => ?_)
  refine W.eq (g2 := F0 m 16 ls [.int (p_ticks (ix n) d 3)]) rfl ?_
  refine lv_istore_n (lv' := [(2, .int (p_ticks (ix n) d 3)), (0, .ref (G.ad 5 0)), (1, .int n)]) hx hb dX0_cellBehind_16 rfl hl (by decide) rfl (fun ls hl => ?_)
  refine lv_aload_n hx hb dX0_cellBehind_17 rfl (lv_at hl 1 rfl) ?_
  refine fg_get (C := RX0) (T := TX0) (N := 13) (ci := 1) (g := 5) (i := 0) (v := .ref (G.ad 0 0)) hx hb hown hts hX hC in_X0 rfl (cin rfl) rfl 3 (by decide) q425 (fun _ h => h) rfl dX0_cellBehind_18 ?_
  refine lv_aload_n hx hb dX0_cellBehind_21 rfl (lv_at hl 1 rfl) ?_
  refine fg_get (C := RX0) (T := TX0) (N := 13) (ci := 1) (g := 5) (i := 0) (v := .ref (G.ad 2 0)) hx hb hown hts hX hC in_X0 rfl (cin rfl) rfl 5 (by decide) q427 (fun _ h => h) rfl dX0_cellBehind_22 ?_
  refine fc_V (As := [.ref (G.ad 2 0)]) (rest := []) hx hb hml hown hts hX hC (m_X4_become_02) (lw_V q700 q701 q702 q115 q703) hdV_X4_become ⟨rfl, rfl⟩ ⟨Nat.le_of_ble_eq_true rfl, Nat.le_of_ble_eq_true rfl⟩ (fx_recv (g := 0) (i := 0) (ci := 0) (q := (RX4, TX4, 9)) hX hC (cin rfl) rfl rfl) hl.1 rfl (Nat.le_of_ble_eq_true rfl) ⟨Nat.zero_le _, Nat.zero_le _⟩ dX0_cellBehind_25 (fun _ H locs hC => ?_)
  refine W.eq (g2 := F0 m 28 ls []) rfl ?_
  refine lv_iload_n hx hb dX0_cellBehind_28 rfl (lv_at hl 0 rfl) ?_
  exact fr_i hx hb hr hlocks hX hC () rfl rfl dX0_cellBehind_29
set_option maxRecDepth 100000 in
theorem m_X0_where {l : Launch} {G : Gc} {d kp as un to sc fd tp sh : Row} {sp : Nat → Option Nat} (hw : WF d) (n : Int32) : Cm l yX0_where (ws_ yX0_where cX0_where 2 (some .int)) ({ frames := 5, cells := 0, slots := 0, locals := 126 }) (cF G) [.ref (G.ad 5 0), .int n] (cct G (pg d kp as un to sc fd tp sh) sp) (fun u : Row => some (.int ((s_where d fd n).1))) (fun u => cct G (pg d kp u un to sc ((s_where d fd n).2) tp sh) sp) := by
  refine Cm.start (by decide) (Nat.le_of_ble_eq_true rfl) ?_
  intro p e s m below meth c hf hX hC ls hl
  obtain ⟨hx, hb, hr, hml, hown, hts, hlocks⟩ := hf
  have hl : lv_has ls 2 [(0, .ref (G.ad 5 0)), (1, .int n)] := hl
  have hown : s.vm.findClass "OwlEars" = some m.cls := hown
  refine lv_iload_n hx hb dX0_where_0 rfl (lv_at hl 1 rfl) ?_
  refine lv_iconst (v := 0) hx hb dX0_where_1 rfl ?_
  refine lv_sipush (v := 200) hx hb dX0_where_2 rfl ?_
  refine fc_S (As := [.int n, .int 0, .int 200]) (rest := []) hx hb hml hown hts hX hC (m_X0_in n 0 200) (lw_S q469 q470 q108 q471) hdS_X0_in ⟨rfl, rfl⟩ ⟨Nat.le_of_ble_eq_true rfl, Nat.le_of_ble_eq_true rfl⟩ hl.1 rfl (Nat.le_of_ble_eq_true rfl) ⟨Nat.zero_le _, Nat.zero_le _⟩ dX0_where_5 (fun _ H locs hC => ?_)
  refine W.eq (g2 := F0 m 8 ls [.int (b2i (p_in n 0 200))]) rfl ?_
  refine fb_eq (tgt := 19) hx hb dX0_where_8 (by decide) (fun c_2 => ?_) (fun c_2 => ?_)
  · refine lv_aload_n hx hb dX0_where_19 rfl (lv_at hl 0 rfl) ?_
    refine lv_iconst (v := 0) hx hb dX0_where_20 rfl ?_
    refine fc_V (As := [.int 0]) (rest := []) hx hb hml hown hts hX hC (m_X0_finding 0 (vin_b rfl)) (lw_V q472 q474 qs2 q108 q475) hdV_X0_finding ⟨rfl, rfl⟩ ⟨Nat.le_of_ble_eq_true rfl, Nat.le_of_ble_eq_true rfl⟩ (fx_recv (g := 5) (i := 0) (ci := 1) (q := (RX0, TX0, 13)) hX hC (cin rfl) rfl rfl) hl.1 rfl (Nat.le_of_ble_eq_true rfl) ⟨Nat.zero_le _, Nat.zero_le _⟩ dX0_where_21 (fun _ H locs hC => ?_)
    refine W.eq (g2 := F0 m 24 ls [.int (-1000001)]) rfl ?_
    have hs : s_where d fd n = (((-1000001), p_find fd 0) : Int32 × Row) := by first | grind [s_where] | rfl
    exact fr_i hx hb hr hlocks hX hC as (congrArg (fun z => some (Value.int z)) (t2_1 hs)) (congrArg (fun z => cct G (pg d kp as un to sc z tp sh) sp) (t2_2 hs)).symm dX0_where_24
  · refine lv_aload_n hx hb dX0_where_11 rfl (lv_at hl 0 rfl) ?_
    refine lv_iload_n hx hb dX0_where_12 rfl (lv_at hl 1 rfl) ?_
    refine fc_VW (As := [.int n]) (rest := []) hx hb hml hown hts hX hC (m_X0_cellBehind hw n) (lw_VW q848 q850 qs14 q108 q851) hdV_X0_cellBehind ⟨rfl, rfl⟩ ⟨Nat.le_of_ble_eq_true rfl, Nat.le_of_ble_eq_true rfl⟩ (fx_recv (g := 5) (i := 0) (ci := 1) (q := (RX0, TX0, 13)) hX hC (cin rfl) rfl rfl) hl.1 rfl (Nat.le_of_ble_eq_true rfl) ⟨Nat.zero_le _, Nat.zero_le _⟩ dX0_where_13 (fun _ H locs hC => ?_)
    refine W.eq (g2 := F0 m 16 ls [.int (p_ticks (ix n) d 3)]) rfl ?_
    refine lv_goto (tgt := 24) hx hb dX0_where_16 (by decide) ?_
    have hs : s_where d fd n = ((p_ticks (ix n) d 3, fd) : Int32 × Row) := by first | grind [s_where] | rfl
    exact fr_i hx hb hr hlocks hX hC d (congrArg (fun z => some (Value.int z)) (t2_1 hs)) (congrArg (fun z => cct G (pg d kp d un to sc z tp sh) sp) (t2_2 hs)).symm dX0_where_24
set_option maxRecDepth 100000 in
theorem m_X0_heardIn {l : Launch} {G : Gc} {d kp as un to sc fd tp sh : Row} {sp : Nat → Option Nat} (hw : WF d) (n : Int32) : Cm l yX0_heardIn (wsW_ yX0_heardIn cX0_heardIn 5 (some .int) [(11, 53, 66, 0), (66, 68, 66, 0)]) ({ frames := 4, cells := 0, slots := 0, locals := 103 }) (cF G) [.ref (G.ad 5 0), .int n] (cct G (pg d kp as un to sc fd tp sh) sp) (fun _ : Unit => some (.int (p_heard d (ix n)))) (fun _ => cct G (pg d kp d un to sc fd tp sh) sp) := by
  refine Cm.startW (by decide) (Nat.le_of_ble_eq_true rfl) ?_
  intro p e s m below meth c hf hX hC ls hl
  obtain ⟨hx, hb, hr, hml, hown, hts, hlocks⟩ := hf
  have hl : lv_has ls 5 [(0, .ref (G.ad 5 0)), (1, .int n)] := hl
  have hown : s.vm.findClass "OwlEars" = some m.cls := hown
  refine lv_aload_n hx hb dX0_heardIn_0 rfl (lv_at hl 0 rfl) ?_
  refine fg_get (C := RX0) (T := TX0) (N := 13) (ci := 1) (g := 5) (i := 0) (v := .ref (G.ad 2 0)) hx hb hown hts hX hC in_X0 rfl (cin rfl) rfl 5 (by decide) q427 (fun _ h => h) rfl dX0_heardIn_1 ?_
  refine lv_aload_n hx hb dX0_heardIn_4 rfl (lv_at hl 0 rfl) ?_
  refine fg_get (C := RX0) (T := TX0) (N := 13) (ci := 1) (g := 5) (i := 0) (v := .ref (G.ad 0 0)) hx hb hown hts hX hC in_X0 rfl (cin rfl) rfl 3 (by decide) q425 (fun _ h => h) rfl dX0_heardIn_5 ?_
  refine fc_V (As := [.ref (G.ad 0 0)]) (rest := []) hx hb hml hown hts hX hC (m_X4_become_20) (lw_V q700 q701 q702 q115 q703) hdV_X4_become ⟨rfl, rfl⟩ ⟨Nat.le_of_ble_eq_true rfl, Nat.le_of_ble_eq_true rfl⟩ (fx_recv (g := 2) (i := 0) (ci := 0) (q := (RX4, TX4, 9)) hX hC (cin rfl) rfl rfl) hl.1 rfl (Nat.le_of_ble_eq_true rfl) ⟨Nat.zero_le _, Nat.zero_le _⟩ dX0_heardIn_8 (fun _ H locs hC => ?_)
  refine W.eq (g2 := F0 m 11 ls []) rfl ?_
  refine lv_iconst (v := 0) hx hb dX0_heardIn_11 rfl ?_
  refine lv_istore_n (lv' := [(2, .int 0), (0, .ref (G.ad 5 0)), (1, .int n)]) hx hb dX0_heardIn_12 rfl hl (by decide) rfl (fun ls hl => ?_)
  refine lv_iconst (v := 0) hx hb dX0_heardIn_13 rfl ?_
  refine lv_istore_n (lv' := [(3, .int 0), (2, .int 0), (0, .ref (G.ad 5 0)), (1, .int n)]) hx hb dX0_heardIn_14 rfl hl (by decide) rfl (fun ls hl => ?_)
  have L_2 : ∀ (k2 i2 : Nat), i2 + k2 = ix n → ∀ (H : Heap) (locs : List Loc), fC (cF G) (cct G (pg (p_ticks i2 d) kp d un to sc fd tp sh) sp) s.heap H locs → ∀ ls : Array Slot, lv_has ls 5 [(0, .ref (G.ad 5 0)), (1, .int n), (2, .int (p_heard d i2)), (3, .int (nI i2))] → WG p l e ({ frames := 4, cells := 0, slots := 0, locals := 103 }) s m (([.ref (G.ad 5 0), .int n] : List Value).toArray) below meth c H locs (cF G) (fun _ : Unit => some (.int (p_heard d (ix n)))) (fun _ => cct G (pg d kp d un to sc fd tp sh) sp) (F0 m 15 ls []) := by
    intro k2
    induction k2 with
    | zero =>
      intro i2 hi2 H locs hC ls hl
      obtain rfl : i2 = ix n := by omega
      refine lv_iload_n hx hb dX0_heardIn_15 rfl (lv_at hl 3 rfl) ?_
      refine lv_iload_n hx hb dX0_heardIn_16 rfl (lv_at hl 1 rfl) ?_
      refine fj_ge (tgt := 51) hx hb dX0_heardIn_17 (by decide) (fun _ => ?_) (fun z_3 => absurd z_3 (nlt_ix (n := n)))
      refine lv_iload_n hx hb dX0_heardIn_51 rfl (lv_at hl 2 rfl) ?_
      refine lv_istore_n (lv' := [(3, .int (p_heard d (ix n))), (0, .ref (G.ad 5 0)), (1, .int n), (2, .int (p_heard d (ix n)))]) hx hb dX0_heardIn_52 rfl hl (by decide) rfl (fun ls hl => ?_)
      refine lv_aload_n hx hb dX0_heardIn_53 rfl (lv_at hl 1 rfl) ?_
      refine fg_get (C := RX0) (T := TX0) (N := 13) (ci := 1) (g := 5) (i := 0) (v := .ref (G.ad 0 0)) hx hb hown hts hX hC in_X0 rfl (cin rfl) rfl 3 (by decide) q425 (fun _ h => h) rfl dX0_heardIn_54 ?_
      refine lv_aload_n hx hb dX0_heardIn_57 rfl (lv_at hl 1 rfl) ?_
      refine fg_get (C := RX0) (T := TX0) (N := 13) (ci := 1) (g := 5) (i := 0) (v := .ref (G.ad 2 0)) hx hb hown hts hX hC in_X0 rfl (cin rfl) rfl 5 (by decide) q427 (fun _ h => h) rfl dX0_heardIn_58 ?_
      refine fc_V (As := [.ref (G.ad 2 0)]) (rest := []) hx hb hml hown hts hX hC (m_X4_become_02) (lw_V q700 q701 q702 q115 q703) hdV_X4_become ⟨rfl, rfl⟩ ⟨Nat.le_of_ble_eq_true rfl, Nat.le_of_ble_eq_true rfl⟩ (fx_recv (g := 0) (i := 0) (ci := 0) (q := (RX4, TX4, 9)) hX hC (cin rfl) rfl rfl) hl.1 rfl (Nat.le_of_ble_eq_true rfl) ⟨Nat.zero_le _, Nat.zero_le _⟩ dX0_heardIn_61 (fun _ H locs hC => ?_)
      refine W.eq (g2 := F0 m 64 ls []) rfl ?_
      refine lv_iload_n hx hb dX0_heardIn_64 rfl (lv_at hl 0 rfl) ?_
      exact fr_i hx hb hr hlocks hX hC () rfl rfl dX0_heardIn_65
    | succ k2 ih2 =>
      intro i2 hi2 H locs hC ls hl
      have hz2 : i2 < 2147483648 := by have := ix_lt n; omega
      refine lv_iload_n hx hb dX0_heardIn_15 rfl (lv_at hl 3 rfl) ?_
      refine lv_iload_n hx hb dX0_heardIn_16 rfl (lv_at hl 1 rfl) ?_
      refine fj_ge (tgt := 51) hx hb dX0_heardIn_17 (by decide) (fun z_5 => absurd (lt_ix (n := n) (show i2 < ix n by omega)) z_5) (fun _ => ?_)
      refine lv_iload_n hx hb dX0_heardIn_20 rfl (lv_at hl 2 rfl) ?_
      refine lv_aload_n hx hb dX0_heardIn_21 rfl (lv_at hl 0 rfl) ?_
      refine fg_get (C := RX0) (T := TX0) (N := 13) (ci := 1) (g := 5) (i := 0) (v := .ref (G.ad 0 0)) hx hb hown hts hX hC in_X0 rfl (cin rfl) rfl 3 (by decide) q425 (fun _ h => h) rfl dX0_heardIn_22 ?_
      refine fc_V (As := []) (rest := [.int (p_heard d i2)]) hx hb hml hown hts hX hC (m_X4_hears (hw.ticks _)) (lw_V q806 q807 q808 q115 q809) hdV_X4_hears ⟨rfl, rfl⟩ ⟨Nat.le_of_ble_eq_true rfl, Nat.le_of_ble_eq_true rfl⟩ (fx_recv (g := 0) (i := 0) (ci := 0) (q := (RX4, TX4, 9)) hX hC (cin rfl) rfl rfl) hl.1 rfl (Nat.le_of_ble_eq_true rfl) ⟨Nat.zero_le _, Nat.zero_le _⟩ dX0_heardIn_25 (fun _ H locs hC => ?_)
      refine W.eq (g2 := F0 m 28 ls [.int (b2i (p_hears (p_ticks i2 d))), .int (p_heard d i2)]) rfl ?_
      refine fw_joinb (C := p_hears (p_ticks i2 d)) (pcj := 36) (ls := ls) (rest := [.int (p_heard d i2)]) (fun ja jb => ?_) ?_
      · refine fb_eq (tgt := 35) hx hb dX0_heardIn_28 (by decide) (fun c_7 => ?_) (fun c_7 => ?_)
        · refine lv_iconst (v := 0) hx hb dX0_heardIn_35 rfl ?_
          exact jb c_7
        · refine lv_iconst (v := 1) hx hb dX0_heardIn_31 rfl ?_
          refine lv_goto (tgt := 36) hx hb dX0_heardIn_32 (by decide) ?_
          exact ja c_7
      refine lv_iadd hx hb dX0_heardIn_36 ?_
      refine lv_istore_n (lv' := [(2, .int ((p_heard d i2) + (b2i (p_hears (p_ticks i2 d))))), (0, .ref (G.ad 5 0)), (1, .int n), (3, .int (nI i2))]) hx hb dX0_heardIn_37 rfl hl (by decide) rfl (fun ls hl => ?_)
      refine lv_aload_n hx hb dX0_heardIn_38 rfl (lv_at hl 1 rfl) ?_
      refine fg_get (C := RX0) (T := TX0) (N := 13) (ci := 1) (g := 5) (i := 0) (v := .ref (G.ad 0 0)) hx hb hown hts hX hC in_X0 rfl (cin rfl) rfl 3 (by decide) q425 (fun _ h => h) rfl dX0_heardIn_39 ?_
      refine fc_V (As := []) (rest := []) hx hb hml hown hts hX hC (m_X4_passes (hw.ticks _)) (lw_V q714 q715 q716 q115 q717) hdV_X4_passes ⟨rfl, rfl⟩ ⟨Nat.le_of_ble_eq_true rfl, Nat.le_of_ble_eq_true rfl⟩ (fx_recv (g := 0) (i := 0) (ci := 0) (q := (RX4, TX4, 9)) hX hC (cin rfl) rfl rfl) hl.1 rfl (Nat.le_of_ble_eq_true rfl) ⟨Nat.zero_le _, Nat.zero_le _⟩ dX0_heardIn_42 (fun _ H locs hC => ?_)
      refine W.eq (g2 := F0 m 45 ls []) rfl ?_
      refine lv_iinc (v := nI (i2 + 1)) (lv' := [(3, .int (nI (i2 + 1))), (2, .int ((p_heard d i2) + (b2i (p_hears (p_ticks i2 d))))), (0, .ref (G.ad 5 0)), (1, .int n)]) hx hb dX0_heardIn_45 hl (k := 3) rfl (nI_1 _) (by decide) rfl (fun ls hl => ?_)
      refine lv_goto (tgt := 15) hx hb dX0_heardIn_48 (by decide) ?_
      exact ih2 (i2 + 1) (by omega) _ _ hC ls (lv_sub hl [2, 3, 1, 0] rfl)
  exact L_2 (ix n) 0 (by omega) _ _ hC ls (lv_sub hl [2, 3, 1, 0] rfl)
set_option maxRecDepth 100000 in
theorem m_X0_heard {l : Launch} {G : Gc} {d kp as un to sc fd tp sh : Row} {sp : Nat → Option Nat} (hw : WF d) (n : Int32) : Cm l yX0_heard (ws_ yX0_heard cX0_heard 2 (some .int)) ({ frames := 5, cells := 0, slots := 0, locals := 127 }) (cF G) [.ref (G.ad 5 0), .int n] (cct G (pg d kp as un to sc fd tp sh) sp) (fun u : Row => some (.int ((s_heard d fd n).1))) (fun u => cct G (pg d kp u un to sc ((s_heard d fd n).2) tp sh) sp) := by
  refine Cm.start (by decide) (Nat.le_of_ble_eq_true rfl) ?_
  intro p e s m below meth c hf hX hC ls hl
  obtain ⟨hx, hb, hr, hml, hown, hts, hlocks⟩ := hf
  have hl : lv_has ls 2 [(0, .ref (G.ad 5 0)), (1, .int n)] := hl
  have hown : s.vm.findClass "OwlEars" = some m.cls := hown
  refine lv_iload_n hx hb dX0_heard_0 rfl (lv_at hl 1 rfl) ?_
  refine lv_iconst (v := 0) hx hb dX0_heard_1 rfl ?_
  refine lv_sipush (v := 200) hx hb dX0_heard_2 rfl ?_
  refine fc_S (As := [.int n, .int 0, .int 200]) (rest := []) hx hb hml hown hts hX hC (m_X0_in n 0 200) (lw_S q469 q470 q108 q471) hdS_X0_in ⟨rfl, rfl⟩ ⟨Nat.le_of_ble_eq_true rfl, Nat.le_of_ble_eq_true rfl⟩ hl.1 rfl (Nat.le_of_ble_eq_true rfl) ⟨Nat.zero_le _, Nat.zero_le _⟩ dX0_heard_5 (fun _ H locs hC => ?_)
  refine W.eq (g2 := F0 m 8 ls [.int (b2i (p_in n 0 200))]) rfl ?_
  refine fb_eq (tgt := 19) hx hb dX0_heard_8 (by decide) (fun c_2 => ?_) (fun c_2 => ?_)
  · refine lv_aload_n hx hb dX0_heard_19 rfl (lv_at hl 0 rfl) ?_
    refine lv_iconst (v := 0) hx hb dX0_heard_20 rfl ?_
    refine fc_V (As := [.int 0]) (rest := []) hx hb hml hown hts hX hC (m_X0_finding 0 (vin_b rfl)) (lw_V q472 q474 qs2 q108 q475) hdV_X0_finding ⟨rfl, rfl⟩ ⟨Nat.le_of_ble_eq_true rfl, Nat.le_of_ble_eq_true rfl⟩ (fx_recv (g := 5) (i := 0) (ci := 1) (q := (RX0, TX0, 13)) hX hC (cin rfl) rfl rfl) hl.1 rfl (Nat.le_of_ble_eq_true rfl) ⟨Nat.zero_le _, Nat.zero_le _⟩ dX0_heard_21 (fun _ H locs hC => ?_)
    refine W.eq (g2 := F0 m 24 ls [.int (-1000001)]) rfl ?_
    have hs : s_heard d fd n = (((-1000001), p_find fd 0) : Int32 × Row) := by first | grind [s_heard] | rfl
    exact fr_i hx hb hr hlocks hX hC as (congrArg (fun z => some (Value.int z)) (t2_1 hs)) (congrArg (fun z => cct G (pg d kp as un to sc z tp sh) sp) (t2_2 hs)).symm dX0_heard_24
  · refine lv_aload_n hx hb dX0_heard_11 rfl (lv_at hl 0 rfl) ?_
    refine lv_iload_n hx hb dX0_heard_12 rfl (lv_at hl 1 rfl) ?_
    refine fc_VW (As := [.int n]) (rest := []) hx hb hml hown hts hX hC (m_X0_heardIn hw n) (lw_VW q856 q858 qs15 q108 q859) hdV_X0_heardIn ⟨rfl, rfl⟩ ⟨Nat.le_of_ble_eq_true rfl, Nat.le_of_ble_eq_true rfl⟩ (fx_recv (g := 5) (i := 0) (ci := 1) (q := (RX0, TX0, 13)) hX hC (cin rfl) rfl rfl) hl.1 rfl (Nat.le_of_ble_eq_true rfl) ⟨Nat.zero_le _, Nat.zero_le _⟩ dX0_heard_13 (fun _ H locs hC => ?_)
    refine W.eq (g2 := F0 m 16 ls [.int (p_heard d (ix n))]) rfl ?_
    refine lv_goto (tgt := 24) hx hb dX0_heard_16 (by decide) ?_
    have hs : s_heard d fd n = ((p_heard d (ix n), fd) : Int32 × Row) := by first | grind [s_heard] | rfl
    exact fr_i hx hb hr hlocks hX hC d (congrArg (fun z => some (Value.int z)) (t2_1 hs)) (congrArg (fun z => cct G (pg d kp d un to sc z tp sh) sp) (t2_2 hs)).symm dX0_heard_24
set_option maxRecDepth 100000 in
theorem m_X0_ticksTill_r {l : Launch} {G : Gc} {d kp as un to sc fd tp sh : Row} {sp : Nat → Option Nat} (hw : WF d)  : Cm l yX0_ticksTill (wsW_ yX0_ticksTill cX0_ticksTill 5 (some .int) [(11, 77, 90, 0), (90, 92, 90, 0)]) ({ frames := 4, cells := 0, slots := 0, locals := 103 }) (cF G) [.ref (G.ad 5 0), .int (-1)] (cct G (pg d kp as un to sc fd tp sh) sp) (fun _ : Unit => some (.int (p_rustle d))) (fun _ => cct G (pg d kp d un to sc fd tp sh) sp) := by
  refine Cm.startW (by decide) (Nat.le_of_ble_eq_true rfl) ?_
  intro p e s m below meth c hf hX hC ls hl
  obtain ⟨hx, hb, hr, hml, hown, hts, hlocks⟩ := hf
  have hl : lv_has ls 5 [(0, .ref (G.ad 5 0)), (1, .int (-1))] := hl
  have hown : s.vm.findClass "OwlEars" = some m.cls := hown
  refine lv_aload_n hx hb dX0_ticksTill_0 rfl (lv_at hl 0 rfl) ?_
  refine fg_get (C := RX0) (T := TX0) (N := 13) (ci := 1) (g := 5) (i := 0) (v := .ref (G.ad 2 0)) hx hb hown hts hX hC in_X0 rfl (cin rfl) rfl 5 (by decide) q427 (fun _ h => h) rfl dX0_ticksTill_1 ?_
  refine lv_aload_n hx hb dX0_ticksTill_4 rfl (lv_at hl 0 rfl) ?_
  refine fg_get (C := RX0) (T := TX0) (N := 13) (ci := 1) (g := 5) (i := 0) (v := .ref (G.ad 0 0)) hx hb hown hts hX hC in_X0 rfl (cin rfl) rfl 3 (by decide) q425 (fun _ h => h) rfl dX0_ticksTill_5 ?_
  refine fc_V (As := [.ref (G.ad 0 0)]) (rest := []) hx hb hml hown hts hX hC (m_X4_become_20) (lw_V q700 q701 q702 q115 q703) hdV_X4_become ⟨rfl, rfl⟩ ⟨Nat.le_of_ble_eq_true rfl, Nat.le_of_ble_eq_true rfl⟩ (fx_recv (g := 2) (i := 0) (ci := 0) (q := (RX4, TX4, 9)) hX hC (cin rfl) rfl rfl) hl.1 rfl (Nat.le_of_ble_eq_true rfl) ⟨Nat.zero_le _, Nat.zero_le _⟩ dX0_ticksTill_8 (fun _ H locs hC => ?_)
  refine W.eq (g2 := F0 m 11 ls []) rfl ?_
  refine lv_iconst (v := 0) hx hb dX0_ticksTill_11 rfl ?_
  refine lv_istore_n (lv' := [(2, .int 0), (0, .ref (G.ad 5 0)), (1, .int (-1))]) hx hb dX0_ticksTill_12 rfl hl (by decide) rfl (fun ls hl => ?_)
  have L_2 : ∀ (k2 i2 : Nat), i2 + k2 = 201 → p_fst (fun i => p_hears (p_ticks i d)) 201 0 = p_fst (fun i => p_hears (p_ticks i d)) k2 i2 → ∀ (H : Heap) (locs : List Loc), fC (cF G) (cct G (pg (p_ticks i2 d) kp d un to sc fd tp sh) sp) s.heap H locs → ∀ ls : Array Slot, lv_has ls 5 [(2, .int (nI i2)), (0, .ref (G.ad 5 0)), (1, .int (-1))] → WG p l e ({ frames := 4, cells := 0, slots := 0, locals := 103 }) s m (([.ref (G.ad 5 0), .int (-1)] : List Value).toArray) below meth c H locs (cF G) (fun _ : Unit => some (.int (p_rustle d))) (fun _ => cct G (pg d kp d un to sc fd tp sh) sp) (F0 m 13 ls []) := by
    intro k2
    induction k2 with
    | zero =>
      intro i2 hi2 hJ2 H locs hC ls hl
      obtain rfl : i2 = 201 := by omega
      refine lv_iload_n hx hb dX0_ticksTill_13 rfl (lv_at hl 0 rfl) ?_
      refine lv_sipush (v := 200) hx hb dX0_ticksTill_14 rfl ?_
      refine lv_icmp_gt (tgt := 64) hx hb dX0_ticksTill_17 (by decide) (fun _ => ?_) (fun z_3 => absurd (by decide) z_3)
      refine lv_iload_n hx hb dX0_ticksTill_64 rfl (lv_at hl 0 rfl) ?_
      refine lv_sipush (v := 200) hx hb dX0_ticksTill_65 rfl ?_
      refine lv_icmp_gt (tgt := 75) hx hb dX0_ticksTill_68 (by decide) (fun _ => ?_) (fun z_4 => absurd (by decide) z_4)
      refine lv_iconst (v := (-1)) hx hb dX0_ticksTill_75 rfl ?_
      refine lv_istore_n (lv' := [(3, .int (-1)), (2, .int (nI 201)), (0, .ref (G.ad 5 0)), (1, .int (-1))]) hx hb dX0_ticksTill_76 rfl hl (by decide) rfl (fun ls hl => ?_)
      refine lv_aload_n hx hb dX0_ticksTill_77 rfl (lv_at hl 2 rfl) ?_
      refine fg_get (C := RX0) (T := TX0) (N := 13) (ci := 1) (g := 5) (i := 0) (v := .ref (G.ad 0 0)) hx hb hown hts hX hC in_X0 rfl (cin rfl) rfl 3 (by decide) q425 (fun _ h => h) rfl dX0_ticksTill_78 ?_
      refine lv_aload_n hx hb dX0_ticksTill_81 rfl (lv_at hl 2 rfl) ?_
      refine fg_get (C := RX0) (T := TX0) (N := 13) (ci := 1) (g := 5) (i := 0) (v := .ref (G.ad 2 0)) hx hb hown hts hX hC in_X0 rfl (cin rfl) rfl 5 (by decide) q427 (fun _ h => h) rfl dX0_ticksTill_82 ?_
      refine fc_V (As := [.ref (G.ad 2 0)]) (rest := []) hx hb hml hown hts hX hC (m_X4_become_02) (lw_V q700 q701 q702 q115 q703) hdV_X4_become ⟨rfl, rfl⟩ ⟨Nat.le_of_ble_eq_true rfl, Nat.le_of_ble_eq_true rfl⟩ (fx_recv (g := 0) (i := 0) (ci := 0) (q := (RX4, TX4, 9)) hX hC (cin rfl) rfl rfl) hl.1 rfl (Nat.le_of_ble_eq_true rfl) ⟨Nat.zero_le _, Nat.zero_le _⟩ dX0_ticksTill_85 (fun _ H locs hC => ?_)
      refine W.eq (g2 := F0 m 88 ls []) rfl ?_
      refine lv_iload_n hx hb dX0_ticksTill_88 rfl (lv_at hl 0 rfl) ?_
      exact fr_i hx hb hr hlocks hX hC () (congrArg (fun z => some (Value.int z)) (hJ2)) rfl dX0_ticksTill_89
    | succ k2 ih2 =>
      intro i2 hi2 hJ2 H locs hC ls hl
      refine lv_iload_n hx hb dX0_ticksTill_13 rfl (lv_at hl 0 rfl) ?_
      refine lv_sipush (v := 200) hx hb dX0_ticksTill_14 rfl ?_
      refine lv_icmp_gt (tgt := 64) hx hb dX0_ticksTill_17 (by decide) (fun z_6 => absurd z_6 (nI_nlt (a := 200) (b := i2) (by omega) (by decide))) (fun _ => ?_)
      refine lv_iload_n hx hb dX0_ticksTill_20 rfl (lv_at hl 2 rfl) ?_
      refine lv_iconst (v := (-1)) hx hb dX0_ticksTill_21 rfl ?_
      refine lv_icmp_ne (tgt := 38) hx hb dX0_ticksTill_22 (by decide) (fun z_7 => absurd (by decide) z_7) (fun _ => ?_)
      refine lv_aload_n hx hb dX0_ticksTill_25 rfl (lv_at hl 1 rfl) ?_
      refine fg_get (C := RX0) (T := TX0) (N := 13) (ci := 1) (g := 5) (i := 0) (v := .ref (G.ad 0 0)) hx hb hown hts hX hC in_X0 rfl (cin rfl) rfl 3 (by decide) q425 (fun _ h => h) rfl dX0_ticksTill_26 ?_
      refine fc_V (As := []) (rest := []) hx hb hml hown hts hX hC (m_X4_hears (hw.ticks _)) (lw_V q806 q807 q808 q115 q809) hdV_X4_hears ⟨rfl, rfl⟩ ⟨Nat.le_of_ble_eq_true rfl, Nat.le_of_ble_eq_true rfl⟩ (fx_recv (g := 0) (i := 0) (ci := 0) (q := (RX4, TX4, 9)) hX hC (cin rfl) rfl rfl) hl.1 rfl (Nat.le_of_ble_eq_true rfl) ⟨Nat.zero_le _, Nat.zero_le _⟩ dX0_ticksTill_29 (fun _ H locs hC => ?_)
      refine W.eq (g2 := F0 m 32 ls [.int (b2i (p_hears (p_ticks i2 d)))]) rfl ?_
      refine fb_eq (tgt := 51) hx hb dX0_ticksTill_32 (by decide) (fun c_9 => ?_) (fun c_9 => ?_)
      · refine lv_aload_n hx hb dX0_ticksTill_51 rfl (lv_at hl 1 rfl) ?_
        refine fg_get (C := RX0) (T := TX0) (N := 13) (ci := 1) (g := 5) (i := 0) (v := .ref (G.ad 0 0)) hx hb hown hts hX hC in_X0 rfl (cin rfl) rfl 3 (by decide) q425 (fun _ h => h) rfl dX0_ticksTill_52 ?_
        refine fc_V (As := []) (rest := []) hx hb hml hown hts hX hC (m_X4_passes (hw.ticks _)) (lw_V q714 q715 q716 q115 q717) hdV_X4_passes ⟨rfl, rfl⟩ ⟨Nat.le_of_ble_eq_true rfl, Nat.le_of_ble_eq_true rfl⟩ (fx_recv (g := 0) (i := 0) (ci := 0) (q := (RX4, TX4, 9)) hX hC (cin rfl) rfl rfl) hl.1 rfl (Nat.le_of_ble_eq_true rfl) ⟨Nat.zero_le _, Nat.zero_le _⟩ dX0_ticksTill_55 (fun _ H locs hC => ?_)
        refine W.eq (g2 := F0 m 58 ls []) rfl ?_
        refine lv_iinc (v := nI (i2 + 1)) (lv' := [(2, .int (nI (i2 + 1))), (0, .ref (G.ad 5 0)), (1, .int (-1))]) hx hb dX0_ticksTill_58 hl (k := 0) rfl (nI_1 _) (by decide) rfl (fun ls hl => ?_)
        refine lv_goto (tgt := 13) hx hb dX0_ticksTill_61 (by decide) ?_
        exact ih2 (i2 + 1) (by omega) (hJ2.trans (p_fst_f c_9)) _ _ hC ls (lv_sub hl [0, 1, 2] rfl)
      · refine lv_goto (tgt := 64) hx hb dX0_ticksTill_35 (by decide) ?_
        refine lv_iload_n hx hb dX0_ticksTill_64 rfl (lv_at hl 0 rfl) ?_
        refine lv_sipush (v := 200) hx hb dX0_ticksTill_65 rfl ?_
        refine lv_icmp_gt (tgt := 75) hx hb dX0_ticksTill_68 (by decide) (fun z_11 => absurd z_11 (nI_nlt (a := 200) (b := i2) (by omega) (by decide))) (fun _ => ?_)
        refine lv_iload_n hx hb dX0_ticksTill_71 rfl (lv_at hl 0 rfl) ?_
        refine lv_goto (tgt := 76) hx hb dX0_ticksTill_72 (by decide) ?_
        refine lv_istore_n (lv' := [(3, .int (nI i2)), (2, .int (nI i2)), (0, .ref (G.ad 5 0)), (1, .int (-1))]) hx hb dX0_ticksTill_76 rfl hl (by decide) rfl (fun ls hl => ?_)
        refine lv_aload_n hx hb dX0_ticksTill_77 rfl (lv_at hl 2 rfl) ?_
        refine fg_get (C := RX0) (T := TX0) (N := 13) (ci := 1) (g := 5) (i := 0) (v := .ref (G.ad 0 0)) hx hb hown hts hX hC in_X0 rfl (cin rfl) rfl 3 (by decide) q425 (fun _ h => h) rfl dX0_ticksTill_78 ?_
        refine lv_aload_n hx hb dX0_ticksTill_81 rfl (lv_at hl 2 rfl) ?_
        refine fg_get (C := RX0) (T := TX0) (N := 13) (ci := 1) (g := 5) (i := 0) (v := .ref (G.ad 2 0)) hx hb hown hts hX hC in_X0 rfl (cin rfl) rfl 5 (by decide) q427 (fun _ h => h) rfl dX0_ticksTill_82 ?_
        refine fc_V (As := [.ref (G.ad 2 0)]) (rest := []) hx hb hml hown hts hX hC (m_X4_become_02) (lw_V q700 q701 q702 q115 q703) hdV_X4_become ⟨rfl, rfl⟩ ⟨Nat.le_of_ble_eq_true rfl, Nat.le_of_ble_eq_true rfl⟩ (fx_recv (g := 0) (i := 0) (ci := 0) (q := (RX4, TX4, 9)) hX hC (cin rfl) rfl rfl) hl.1 rfl (Nat.le_of_ble_eq_true rfl) ⟨Nat.zero_le _, Nat.zero_le _⟩ dX0_ticksTill_85 (fun _ H locs hC => ?_)
        refine W.eq (g2 := F0 m 88 ls []) rfl ?_
        refine lv_iload_n hx hb dX0_ticksTill_88 rfl (lv_at hl 0 rfl) ?_
        exact fr_i hx hb hr hlocks hX hC () (congrArg (fun z => some (Value.int z)) (hJ2.trans (p_fst_t c_9))) rfl dX0_ticksTill_89
  exact L_2 201 0 rfl rfl _ _ hC ls (lv_sub hl [0, 1, 2] rfl)
set_option maxRecDepth 100000 in
theorem m_X0_ticksTill_c {l : Launch} {G : Gc} {d kp as un to sc fd tp sh : Row} {sp : Nat → Option Nat} (hw : WF d) (cell : Int32) (hc : ¬ cell = -1) : Cm l yX0_ticksTill (wsW_ yX0_ticksTill cX0_ticksTill 5 (some .int) [(11, 77, 90, 0), (90, 92, 90, 0)]) ({ frames := 3, cells := 0, slots := 0, locals := 103 }) (cF G) [.ref (G.ad 5 0), .int cell] (cct G (pg d kp as un to sc fd tp sh) sp) (fun _ : Unit => some (.int (p_till d cell))) (fun _ => cct G (pg d kp d un to sc fd tp sh) sp) := by
  refine Cm.startW (by decide) (Nat.le_of_ble_eq_true rfl) ?_
  intro p e s m below meth c hf hX hC ls hl
  obtain ⟨hx, hb, hr, hml, hown, hts, hlocks⟩ := hf
  have hl : lv_has ls 5 [(0, .ref (G.ad 5 0)), (1, .int cell)] := hl
  have hown : s.vm.findClass "OwlEars" = some m.cls := hown
  refine lv_aload_n hx hb dX0_ticksTill_0 rfl (lv_at hl 0 rfl) ?_
  refine fg_get (C := RX0) (T := TX0) (N := 13) (ci := 1) (g := 5) (i := 0) (v := .ref (G.ad 2 0)) hx hb hown hts hX hC in_X0 rfl (cin rfl) rfl 5 (by decide) q427 (fun _ h => h) rfl dX0_ticksTill_1 ?_
  refine lv_aload_n hx hb dX0_ticksTill_4 rfl (lv_at hl 0 rfl) ?_
  refine fg_get (C := RX0) (T := TX0) (N := 13) (ci := 1) (g := 5) (i := 0) (v := .ref (G.ad 0 0)) hx hb hown hts hX hC in_X0 rfl (cin rfl) rfl 3 (by decide) q425 (fun _ h => h) rfl dX0_ticksTill_5 ?_
  refine fc_V (As := [.ref (G.ad 0 0)]) (rest := []) hx hb hml hown hts hX hC (m_X4_become_20) (lw_V q700 q701 q702 q115 q703) hdV_X4_become ⟨rfl, rfl⟩ ⟨Nat.le_of_ble_eq_true rfl, Nat.le_of_ble_eq_true rfl⟩ (fx_recv (g := 2) (i := 0) (ci := 0) (q := (RX4, TX4, 9)) hX hC (cin rfl) rfl rfl) hl.1 rfl (Nat.le_of_ble_eq_true rfl) ⟨Nat.zero_le _, Nat.zero_le _⟩ dX0_ticksTill_8 (fun _ H locs hC => ?_)
  refine W.eq (g2 := F0 m 11 ls []) rfl ?_
  refine lv_iconst (v := 0) hx hb dX0_ticksTill_11 rfl ?_
  refine lv_istore_n (lv' := [(2, .int 0), (0, .ref (G.ad 5 0)), (1, .int cell)]) hx hb dX0_ticksTill_12 rfl hl (by decide) rfl (fun ls hl => ?_)
  have L_2 : ∀ (k2 i2 : Nat), i2 + k2 = 201 → p_fst (fun i => p_ticks i d 3 = cell) 201 0 = p_fst (fun i => p_ticks i d 3 = cell) k2 i2 → ∀ (H : Heap) (locs : List Loc), fC (cF G) (cct G (pg (p_ticks i2 d) kp d un to sc fd tp sh) sp) s.heap H locs → ∀ ls : Array Slot, lv_has ls 5 [(2, .int (nI i2)), (0, .ref (G.ad 5 0)), (1, .int cell)] → WG p l e ({ frames := 3, cells := 0, slots := 0, locals := 103 }) s m (([.ref (G.ad 5 0), .int cell] : List Value).toArray) below meth c H locs (cF G) (fun _ : Unit => some (.int (p_till d cell))) (fun _ => cct G (pg d kp d un to sc fd tp sh) sp) (F0 m 13 ls []) := by
    intro k2
    induction k2 with
    | zero =>
      intro i2 hi2 hJ2 H locs hC ls hl
      obtain rfl : i2 = 201 := by omega
      refine lv_iload_n hx hb dX0_ticksTill_13 rfl (lv_at hl 0 rfl) ?_
      refine lv_sipush (v := 200) hx hb dX0_ticksTill_14 rfl ?_
      refine lv_icmp_gt (tgt := 64) hx hb dX0_ticksTill_17 (by decide) (fun _ => ?_) (fun z_3 => absurd (by decide) z_3)
      refine lv_iload_n hx hb dX0_ticksTill_64 rfl (lv_at hl 0 rfl) ?_
      refine lv_sipush (v := 200) hx hb dX0_ticksTill_65 rfl ?_
      refine lv_icmp_gt (tgt := 75) hx hb dX0_ticksTill_68 (by decide) (fun _ => ?_) (fun z_4 => absurd (by decide) z_4)
      refine lv_iconst (v := (-1)) hx hb dX0_ticksTill_75 rfl ?_
      refine lv_istore_n (lv' := [(3, .int (-1)), (2, .int (nI 201)), (0, .ref (G.ad 5 0)), (1, .int cell)]) hx hb dX0_ticksTill_76 rfl hl (by decide) rfl (fun ls hl => ?_)
      refine lv_aload_n hx hb dX0_ticksTill_77 rfl (lv_at hl 2 rfl) ?_
      refine fg_get (C := RX0) (T := TX0) (N := 13) (ci := 1) (g := 5) (i := 0) (v := .ref (G.ad 0 0)) hx hb hown hts hX hC in_X0 rfl (cin rfl) rfl 3 (by decide) q425 (fun _ h => h) rfl dX0_ticksTill_78 ?_
      refine lv_aload_n hx hb dX0_ticksTill_81 rfl (lv_at hl 2 rfl) ?_
      refine fg_get (C := RX0) (T := TX0) (N := 13) (ci := 1) (g := 5) (i := 0) (v := .ref (G.ad 2 0)) hx hb hown hts hX hC in_X0 rfl (cin rfl) rfl 5 (by decide) q427 (fun _ h => h) rfl dX0_ticksTill_82 ?_
      refine fc_V (As := [.ref (G.ad 2 0)]) (rest := []) hx hb hml hown hts hX hC (m_X4_become_02) (lw_V q700 q701 q702 q115 q703) hdV_X4_become ⟨rfl, rfl⟩ ⟨Nat.le_of_ble_eq_true rfl, Nat.le_of_ble_eq_true rfl⟩ (fx_recv (g := 0) (i := 0) (ci := 0) (q := (RX4, TX4, 9)) hX hC (cin rfl) rfl rfl) hl.1 rfl (Nat.le_of_ble_eq_true rfl) ⟨Nat.zero_le _, Nat.zero_le _⟩ dX0_ticksTill_85 (fun _ H locs hC => ?_)
      refine W.eq (g2 := F0 m 88 ls []) rfl ?_
      refine lv_iload_n hx hb dX0_ticksTill_88 rfl (lv_at hl 0 rfl) ?_
      exact fr_i hx hb hr hlocks hX hC () (congrArg (fun z => some (Value.int z)) (hJ2)) rfl dX0_ticksTill_89
    | succ k2 ih2 =>
      intro i2 hi2 hJ2 H locs hC ls hl
      refine lv_iload_n hx hb dX0_ticksTill_13 rfl (lv_at hl 0 rfl) ?_
      refine lv_sipush (v := 200) hx hb dX0_ticksTill_14 rfl ?_
      refine lv_icmp_gt (tgt := 64) hx hb dX0_ticksTill_17 (by decide) (fun z_6 => absurd z_6 (nI_nlt (a := 200) (b := i2) (by omega) (by decide))) (fun _ => ?_)
      refine lv_iload_n hx hb dX0_ticksTill_20 rfl (lv_at hl 2 rfl) ?_
      refine lv_iconst (v := (-1)) hx hb dX0_ticksTill_21 rfl ?_
      refine lv_icmp_ne (tgt := 38) hx hb dX0_ticksTill_22 (by decide) (fun _ => ?_) (fun z_7 => absurd z_7 hc)
      refine lv_aload_n hx hb dX0_ticksTill_38 rfl (lv_at hl 1 rfl) ?_
      refine fg_get (C := RX0) (T := TX0) (N := 13) (ci := 1) (g := 5) (i := 0) (v := .ref (G.ad 0 0)) hx hb hown hts hX hC in_X0 rfl (cin rfl) rfl 3 (by decide) q425 (fun _ h => h) rfl dX0_ticksTill_39 ?_
      refine fg_getN (C := RX4) (T := TX4) (N := 9) (ci := 0) (g := 0) (i := 0) (v := .ref (G.ad 0 3)) hx hb hown hts hX hC in_X4 rfl (cin rfl) rfl 2 (by decide) (hX.2.2.1.F q246) (fun _ h => h) rfl dX0_ticksTill_42 ?_
      refine lv_iconst (v := 0) hx hb dX0_ticksTill_45 rfl ?_
      refine fg_iald (g := 0) (i := 3) (t0 := 0) (v := (p_ticks i2 d) 3) hx hb hX hC (cin rfl) rfl rfl (vin_b rfl) rfl dX0_ticksTill_46 ?_
      refine lv_iload_n hx hb dX0_ticksTill_47 rfl (lv_at hl 2 rfl) ?_
      refine lv_icmp_eq (tgt := 64) hx hb dX0_ticksTill_48 (by decide) (fun c_8 => ?_) (fun c_8 => ?_)
      · refine lv_iload_n hx hb dX0_ticksTill_64 rfl (lv_at hl 0 rfl) ?_
        refine lv_sipush (v := 200) hx hb dX0_ticksTill_65 rfl ?_
        refine lv_icmp_gt (tgt := 75) hx hb dX0_ticksTill_68 (by decide) (fun z_9 => absurd z_9 (nI_nlt (a := 200) (b := i2) (by omega) (by decide))) (fun _ => ?_)
        refine lv_iload_n hx hb dX0_ticksTill_71 rfl (lv_at hl 0 rfl) ?_
        refine lv_goto (tgt := 76) hx hb dX0_ticksTill_72 (by decide) ?_
        refine lv_istore_n (lv' := [(3, .int (nI i2)), (2, .int (nI i2)), (0, .ref (G.ad 5 0)), (1, .int cell)]) hx hb dX0_ticksTill_76 rfl hl (by decide) rfl (fun ls hl => ?_)
        refine lv_aload_n hx hb dX0_ticksTill_77 rfl (lv_at hl 2 rfl) ?_
        refine fg_get (C := RX0) (T := TX0) (N := 13) (ci := 1) (g := 5) (i := 0) (v := .ref (G.ad 0 0)) hx hb hown hts hX hC in_X0 rfl (cin rfl) rfl 3 (by decide) q425 (fun _ h => h) rfl dX0_ticksTill_78 ?_
        refine lv_aload_n hx hb dX0_ticksTill_81 rfl (lv_at hl 2 rfl) ?_
        refine fg_get (C := RX0) (T := TX0) (N := 13) (ci := 1) (g := 5) (i := 0) (v := .ref (G.ad 2 0)) hx hb hown hts hX hC in_X0 rfl (cin rfl) rfl 5 (by decide) q427 (fun _ h => h) rfl dX0_ticksTill_82 ?_
        refine fc_V (As := [.ref (G.ad 2 0)]) (rest := []) hx hb hml hown hts hX hC (m_X4_become_02) (lw_V q700 q701 q702 q115 q703) hdV_X4_become ⟨rfl, rfl⟩ ⟨Nat.le_of_ble_eq_true rfl, Nat.le_of_ble_eq_true rfl⟩ (fx_recv (g := 0) (i := 0) (ci := 0) (q := (RX4, TX4, 9)) hX hC (cin rfl) rfl rfl) hl.1 rfl (Nat.le_of_ble_eq_true rfl) ⟨Nat.zero_le _, Nat.zero_le _⟩ dX0_ticksTill_85 (fun _ H locs hC => ?_)
        refine W.eq (g2 := F0 m 88 ls []) rfl ?_
        refine lv_iload_n hx hb dX0_ticksTill_88 rfl (lv_at hl 0 rfl) ?_
        exact fr_i hx hb hr hlocks hX hC () (congrArg (fun z => some (Value.int z)) (hJ2.trans (p_fst_t c_8))) rfl dX0_ticksTill_89
      · refine lv_aload_n hx hb dX0_ticksTill_51 rfl (lv_at hl 1 rfl) ?_
        refine fg_get (C := RX0) (T := TX0) (N := 13) (ci := 1) (g := 5) (i := 0) (v := .ref (G.ad 0 0)) hx hb hown hts hX hC in_X0 rfl (cin rfl) rfl 3 (by decide) q425 (fun _ h => h) rfl dX0_ticksTill_52 ?_
        refine fc_V (As := []) (rest := []) hx hb hml hown hts hX hC (m_X4_passes (hw.ticks _)) (lw_V q714 q715 q716 q115 q717) hdV_X4_passes ⟨rfl, rfl⟩ ⟨Nat.le_of_ble_eq_true rfl, Nat.le_of_ble_eq_true rfl⟩ (fx_recv (g := 0) (i := 0) (ci := 0) (q := (RX4, TX4, 9)) hX hC (cin rfl) rfl rfl) hl.1 rfl (Nat.le_of_ble_eq_true rfl) ⟨Nat.zero_le _, Nat.zero_le _⟩ dX0_ticksTill_55 (fun _ H locs hC => ?_)
        refine W.eq (g2 := F0 m 58 ls []) rfl ?_
        refine lv_iinc (v := nI (i2 + 1)) (lv' := [(2, .int (nI (i2 + 1))), (0, .ref (G.ad 5 0)), (1, .int cell)]) hx hb dX0_ticksTill_58 hl (k := 0) rfl (nI_1 _) (by decide) rfl (fun ls hl => ?_)
        refine lv_goto (tgt := 13) hx hb dX0_ticksTill_61 (by decide) ?_
        exact ih2 (i2 + 1) (by omega) (hJ2.trans (p_fst_f c_8)) _ _ hC ls (lv_sub hl [0, 1, 2] rfl)
  exact L_2 201 0 rfl rfl _ _ hC ls (lv_sub hl [0, 1, 2] rfl)
set_option maxRecDepth 100000 in
theorem m_X0_when {l : Launch} {G : Gc} {d kp as un to sc fd tp sh : Row} {sp : Nat → Option Nat} (hw : WF d) (cell : Int32) : Cm l yX0_when (ws_ yX0_when cX0_when 2 (some .int)) ({ frames := 4, cells := 0, slots := 0, locals := 127 }) (cF G) [.ref (G.ad 5 0), .int cell] (cct G (pg d kp as un to sc fd tp sh) sp) (fun u : Row => some (.int ((s_when d fd cell).1))) (fun u => cct G (pg d kp u un to sc ((s_when d fd cell).2) tp sh) sp) := by
  refine Cm.start (by decide) (Nat.le_of_ble_eq_true rfl) ?_
  intro p e s m below meth c hf hX hC ls hl
  obtain ⟨hx, hb, hr, hml, hown, hts, hlocks⟩ := hf
  have hl : lv_has ls 2 [(0, .ref (G.ad 5 0)), (1, .int cell)] := hl
  have hown : s.vm.findClass "OwlEars" = some m.cls := hown
  refine lv_iload_n hx hb dX0_when_0 rfl (lv_at hl 1 rfl) ?_
  refine fc_S (As := [.int cell]) (rest := []) hx hb hml hown hts hX hC (m_X0_isCell cell) (lw_S q466 q467 q108 q468) hdS_X0_isCell ⟨rfl, rfl⟩ ⟨Nat.le_of_ble_eq_true rfl, Nat.le_of_ble_eq_true rfl⟩ hl.1 rfl (Nat.le_of_ble_eq_true rfl) ⟨Nat.zero_le _, Nat.zero_le _⟩ dX0_when_1 (fun _ H locs hC => ?_)
  refine W.eq (g2 := F0 m 4 ls [.int (b2i (p_in cell 0 35))]) rfl ?_
  refine fb_eq (tgt := 19) hx hb dX0_when_4 (by decide) (fun c_2 => ?_) (fun c_2 => ?_)
  · refine lv_aload_n hx hb dX0_when_19 rfl (lv_at hl 0 rfl) ?_
    refine lv_iconst (v := 0) hx hb dX0_when_20 rfl ?_
    refine fc_V (As := [.int 0]) (rest := []) hx hb hml hown hts hX hC (m_X0_finding 0 (vin_b rfl)) (lw_V q472 q474 qs2 q108 q475) hdV_X0_finding ⟨rfl, rfl⟩ ⟨Nat.le_of_ble_eq_true rfl, Nat.le_of_ble_eq_true rfl⟩ (fx_recv (g := 5) (i := 0) (ci := 1) (q := (RX0, TX0, 13)) hX hC (cin rfl) rfl rfl) hl.1 rfl (Nat.le_of_ble_eq_true rfl) ⟨Nat.zero_le _, Nat.zero_le _⟩ dX0_when_21 (fun _ H locs hC => ?_)
    refine W.eq (g2 := F0 m 24 ls [.int (-1000001)]) rfl ?_
    have hs : s_when d fd cell = (((-1000001), p_find fd 0) : Int32 × Row) := by first | grind [s_when, p_none] | rfl
    exact fr_i hx hb hr hlocks hX hC as (congrArg (fun z => some (Value.int z)) (t2_1 hs)) (congrArg (fun z => cct G (pg d kp as un to sc z tp sh) sp) (t2_2 hs)).symm dX0_when_24
  · refine lv_aload_n hx hb dX0_when_7 rfl (lv_at hl 0 rfl) ?_
    refine lv_aload_n hx hb dX0_when_8 rfl (lv_at hl 0 rfl) ?_
    refine lv_iload_n hx hb dX0_when_9 rfl (lv_at hl 1 rfl) ?_
    refine fc_VW (As := [.int cell]) (rest := [.ref (G.ad 5 0)]) hx hb hml hown hts hX hC (m_X0_ticksTill_c hw cell (cell_ne c_2)) (lw_VW q864 q866 qs16 q108 q867) hdV_X0_ticksTill ⟨rfl, rfl⟩ ⟨Nat.le_of_ble_eq_true rfl, Nat.le_of_ble_eq_true rfl⟩ (fx_recv (g := 5) (i := 0) (ci := 1) (q := (RX0, TX0, 13)) hX hC (cin rfl) rfl rfl) hl.1 rfl (Nat.le_of_ble_eq_true rfl) ⟨Nat.zero_le _, Nat.zero_le _⟩ dX0_when_10 (fun _ H locs hC => ?_)
    refine W.eq (g2 := F0 m 13 ls [.int (p_till d cell), .ref (G.ad 5 0)]) rfl ?_
    refine fc_V (As := [.int (p_till d cell)]) (rest := []) hx hb hml hown hts hX hC (m_X0_orNone (p_till d cell)) (lw_V q868 q870 qs17 q108 q871) hdV_X0_orNone ⟨rfl, rfl⟩ ⟨Nat.le_of_ble_eq_true rfl, Nat.le_of_ble_eq_true rfl⟩ (fx_recv (g := 5) (i := 0) (ci := 1) (q := (RX0, TX0, 13)) hX hC (cin rfl) rfl rfl) hl.1 rfl (Nat.le_of_ble_eq_true rfl) ⟨Nat.zero_le _, Nat.zero_le _⟩ dX0_when_13 (fun _ H locs hC => ?_)
    refine W.eq (g2 := F0 m 16 ls [.int (if (p_till d cell) = -1 then -1000004 else (p_till d cell))]) rfl ?_
    refine lv_goto (tgt := 24) hx hb dX0_when_16 (by decide) ?_
    have hs : s_when d fd cell = ((if (p_till d cell) = -1 then -1000004 else (p_till d cell), if (p_till d cell) = -1 then p_find fd 3 else fd) : Int32 × Row) := by first | grind [s_when, p_none] | rfl
    exact fr_i hx hb hr hlocks hX hC d (congrArg (fun z => some (Value.int z)) (t2_1 hs)) (congrArg (fun z => cct G (pg d kp d un to sc z tp sh) sp) (t2_2 hs)).symm dX0_when_24
set_option maxRecDepth 100000 in
theorem m_X0_rustle {l : Launch} {G : Gc} {d kp as un to sc fd tp sh : Row} {sp : Nat → Option Nat} (hw : WF d)  : Cm l yX0_rustle (ws_ yX0_rustle cX0_rustle 1 (some .int)) ({ frames := 5, cells := 0, slots := 0, locals := 127 }) (cF G) [.ref (G.ad 5 0)] (cct G (pg d kp as un to sc fd tp sh) sp) (fun u : Row => some (.int ((s_rustle d fd).1))) (fun u => cct G (pg d kp u un to sc ((s_rustle d fd).2) tp sh) sp) := by
  refine Cm.start (by decide) (Nat.le_of_ble_eq_true rfl) ?_
  intro p e s m below meth c hf hX hC ls hl
  obtain ⟨hx, hb, hr, hml, hown, hts, hlocks⟩ := hf
  have hl : lv_has ls 1 [(0, .ref (G.ad 5 0))] := hl
  have hown : s.vm.findClass "OwlEars" = some m.cls := hown
  refine lv_aload_n hx hb dX0_rustle_0 rfl (lv_at hl 0 rfl) ?_
  refine lv_aload_n hx hb dX0_rustle_1 rfl (lv_at hl 0 rfl) ?_
  refine lv_iconst (v := (-1)) hx hb dX0_rustle_2 rfl ?_
  refine fc_VW (As := [.int (-1)]) (rest := [.ref (G.ad 5 0)]) hx hb hml hown hts hX hC (m_X0_ticksTill_r hw) (lw_VW q864 q866 qs16 q108 q867) hdV_X0_ticksTill ⟨rfl, rfl⟩ ⟨Nat.le_of_ble_eq_true rfl, Nat.le_of_ble_eq_true rfl⟩ (fx_recv (g := 5) (i := 0) (ci := 1) (q := (RX0, TX0, 13)) hX hC (cin rfl) rfl rfl) hl.1 rfl (Nat.le_of_ble_eq_true rfl) ⟨Nat.zero_le _, Nat.zero_le _⟩ dX0_rustle_3 (fun _ H locs hC => ?_)
  refine W.eq (g2 := F0 m 6 ls [.int (p_rustle d), .ref (G.ad 5 0)]) rfl ?_
  refine fc_V (As := [.int (p_rustle d)]) (rest := []) hx hb hml hown hts hX hC (m_X0_orNone (p_rustle d)) (lw_V q868 q870 qs17 q108 q871) hdV_X0_orNone ⟨rfl, rfl⟩ ⟨Nat.le_of_ble_eq_true rfl, Nat.le_of_ble_eq_true rfl⟩ (fx_recv (g := 5) (i := 0) (ci := 1) (q := (RX0, TX0, 13)) hX hC (cin rfl) rfl rfl) hl.1 rfl (Nat.le_of_ble_eq_true rfl) ⟨Nat.zero_le _, Nat.zero_le _⟩ dX0_rustle_6 (fun _ H locs hC => ?_)
  refine W.eq (g2 := F0 m 9 ls [.int (if (p_rustle d) = -1 then -1000004 else (p_rustle d))]) rfl ?_
  have hs : s_rustle d fd = ((if (p_rustle d) = -1 then -1000004 else (p_rustle d), if (p_rustle d) = -1 then p_find fd 3 else fd) : Int32 × Row) := by first | grind [s_rustle, p_none] | rfl
  exact fr_i hx hb hr hlocks hX hC d (congrArg (fun z => some (Value.int z)) (t2_1 hs)) (congrArg (fun z => cct G (pg d kp d un to sc z tp sh) sp) (t2_2 hs)).symm dX0_rustle_9
set_option maxRecDepth 100000 in
theorem m_X0_cellsIn {l : Launch} {G : Gc} {d kp as un to sc fd tp sh : Row} {sp : Nat → Option Nat} (hw : WF d) (n : Int32) : Cm l yX0_cellsIn (wsW_ yX0_cellsIn cX0_cellsIn 7 (some .long) [(11, 62, 76, 0), (76, 78, 76, 0)]) ({ frames := 3, cells := 0, slots := 0, locals := 103 }) (cF G) [.ref (G.ad 5 0), .int n] (cct G (pg d kp as un to sc fd tp sh) sp) (fun _ : Unit => some (.long (p_cells d (ix n)))) (fun _ => cct G (pg d kp d un to sc fd tp sh) sp) := by
  refine Cm.startW (by decide) (Nat.le_of_ble_eq_true rfl) ?_
  intro p e s m below meth c hf hX hC ls hl
  obtain ⟨hx, hb, hr, hml, hown, hts, hlocks⟩ := hf
  have hl : lv_has ls 7 [(0, .ref (G.ad 5 0)), (1, .int n)] := hl
  have hown : s.vm.findClass "OwlEars" = some m.cls := hown
  refine lv_aload_n hx hb dX0_cellsIn_0 rfl (lv_at hl 0 rfl) ?_
  refine fg_get (C := RX0) (T := TX0) (N := 13) (ci := 1) (g := 5) (i := 0) (v := .ref (G.ad 2 0)) hx hb hown hts hX hC in_X0 rfl (cin rfl) rfl 5 (by decide) q427 (fun _ h => h) rfl dX0_cellsIn_1 ?_
  refine lv_aload_n hx hb dX0_cellsIn_4 rfl (lv_at hl 0 rfl) ?_
  refine fg_get (C := RX0) (T := TX0) (N := 13) (ci := 1) (g := 5) (i := 0) (v := .ref (G.ad 0 0)) hx hb hown hts hX hC in_X0 rfl (cin rfl) rfl 3 (by decide) q425 (fun _ h => h) rfl dX0_cellsIn_5 ?_
  refine fc_V (As := [.ref (G.ad 0 0)]) (rest := []) hx hb hml hown hts hX hC (m_X4_become_20) (lw_V q700 q701 q702 q115 q703) hdV_X4_become ⟨rfl, rfl⟩ ⟨Nat.le_of_ble_eq_true rfl, Nat.le_of_ble_eq_true rfl⟩ (fx_recv (g := 2) (i := 0) (ci := 0) (q := (RX4, TX4, 9)) hX hC (cin rfl) rfl rfl) hl.1 rfl (Nat.le_of_ble_eq_true rfl) ⟨Nat.zero_le _, Nat.zero_le _⟩ dX0_cellsIn_8 (fun _ H locs hC => ?_)
  refine W.eq (g2 := F0 m 11 ls []) rfl ?_
  refine lv_lconst (v := 1) hx hb dX0_cellsIn_11 rfl ?_
  refine lv_aload_n hx hb dX0_cellsIn_12 rfl (lv_at hl 0 rfl) ?_
  refine fg_get (C := RX0) (T := TX0) (N := 13) (ci := 1) (g := 5) (i := 0) (v := .ref (G.ad 0 0)) hx hb hown hts hX hC in_X0 rfl (cin rfl) rfl 3 (by decide) q425 (fun _ h => h) rfl dX0_cellsIn_13 ?_
  refine fg_getN (C := RX4) (T := TX4) (N := 9) (ci := 0) (g := 0) (i := 0) (v := .ref (G.ad 0 3)) hx hb hown hts hX hC in_X4 rfl (cin rfl) rfl 2 (by decide) (hX.2.2.1.F q246) (fun _ h => h) rfl dX0_cellsIn_16 ?_
  refine lv_iconst (v := 0) hx hb dX0_cellsIn_19 rfl ?_
  refine fg_iald (g := 0) (i := 3) (t0 := 0) (v := d 3) hx hb hX hC (cin rfl) rfl rfl (vin_b rfl) rfl dX0_cellsIn_20 ?_
  refine lv_lshl (v := 1 <<< ((d 3).toInt64 &&& 63)) hx hb dX0_cellsIn_21 rfl ?_
  refine lv_lstore_n (lv' := [(2, .long (1 <<< ((d 3).toInt64 &&& 63))), (0, .ref (G.ad 5 0)), (1, .int n)]) hx hb dX0_cellsIn_22 rfl hl (by decide) rfl (fun ls hl => ?_)
  refine lv_iconst (v := 0) hx hb dX0_cellsIn_23 rfl ?_
  refine lv_istore (lv' := [(4, .int 0), (2, .long (1 <<< ((d 3).toInt64 &&& 63))), (0, .ref (G.ad 5 0)), (1, .int n)]) hx hb dX0_cellsIn_24 hl (by decide) rfl (fun ls hl => ?_)
  have L_2 : ∀ (k2 i2 : Nat), i2 + k2 = ix n → ∀ (H : Heap) (locs : List Loc), fC (cF G) (cct G (pg (p_ticks i2 d) kp d un to sc fd tp sh) sp) s.heap H locs → ∀ ls : Array Slot, lv_has ls 7 [(0, .ref (G.ad 5 0)), (1, .int n), (2, .long (p_cells d i2)), (4, .int (nI i2))] → WG p l e ({ frames := 3, cells := 0, slots := 0, locals := 103 }) s m (([.ref (G.ad 5 0), .int n] : List Value).toArray) below meth c H locs (cF G) (fun _ : Unit => some (.long (p_cells d (ix n)))) (fun _ => cct G (pg d kp d un to sc fd tp sh) sp) (F0 m 26 ls []) := by
    intro k2
    induction k2 with
    | zero =>
      intro i2 hi2 H locs hC ls hl
      obtain rfl : i2 = ix n := by omega
      refine lv_iload hx hb dX0_cellsIn_26 (lv_at hl 3 rfl) ?_
      refine lv_iload_n hx hb dX0_cellsIn_28 rfl (lv_at hl 1 rfl) ?_
      refine fj_ge (tgt := 59) hx hb dX0_cellsIn_29 (by decide) (fun _ => ?_) (fun z_3 => absurd z_3 (nlt_ix (n := n)))
      refine lv_lload_n hx hb dX0_cellsIn_59 rfl (lv_at hl 2 rfl) ?_
      refine lv_lstore (lv' := [(4, .long (p_cells d (ix n))), (0, .ref (G.ad 5 0)), (1, .int n), (2, .long (p_cells d (ix n)))]) hx hb dX0_cellsIn_60 hl (by decide) rfl (fun ls hl => ?_)
      refine lv_aload_n hx hb dX0_cellsIn_62 rfl (lv_at hl 1 rfl) ?_
      refine fg_get (C := RX0) (T := TX0) (N := 13) (ci := 1) (g := 5) (i := 0) (v := .ref (G.ad 0 0)) hx hb hown hts hX hC in_X0 rfl (cin rfl) rfl 3 (by decide) q425 (fun _ h => h) rfl dX0_cellsIn_63 ?_
      refine lv_aload_n hx hb dX0_cellsIn_66 rfl (lv_at hl 1 rfl) ?_
      refine fg_get (C := RX0) (T := TX0) (N := 13) (ci := 1) (g := 5) (i := 0) (v := .ref (G.ad 2 0)) hx hb hown hts hX hC in_X0 rfl (cin rfl) rfl 5 (by decide) q427 (fun _ h => h) rfl dX0_cellsIn_67 ?_
      refine fc_V (As := [.ref (G.ad 2 0)]) (rest := []) hx hb hml hown hts hX hC (m_X4_become_02) (lw_V q700 q701 q702 q115 q703) hdV_X4_become ⟨rfl, rfl⟩ ⟨Nat.le_of_ble_eq_true rfl, Nat.le_of_ble_eq_true rfl⟩ (fx_recv (g := 0) (i := 0) (ci := 0) (q := (RX4, TX4, 9)) hX hC (cin rfl) rfl rfl) hl.1 rfl (Nat.le_of_ble_eq_true rfl) ⟨Nat.zero_le _, Nat.zero_le _⟩ dX0_cellsIn_70 (fun _ H locs hC => ?_)
      refine W.eq (g2 := F0 m 73 ls []) rfl ?_
      refine lv_lload hx hb dX0_cellsIn_73 (lv_at hl 0 rfl) ?_
      exact fr_l hx hb hr hlocks hX hC () rfl rfl dX0_cellsIn_75
    | succ k2 ih2 =>
      intro i2 hi2 H locs hC ls hl
      have hz2 : i2 < 2147483648 := by have := ix_lt n; omega
      refine lv_iload hx hb dX0_cellsIn_26 (lv_at hl 3 rfl) ?_
      refine lv_iload_n hx hb dX0_cellsIn_28 rfl (lv_at hl 1 rfl) ?_
      refine fj_ge (tgt := 59) hx hb dX0_cellsIn_29 (by decide) (fun z_5 => absurd (lt_ix (n := n) (show i2 < ix n by omega)) z_5) (fun _ => ?_)
      refine lv_aload_n hx hb dX0_cellsIn_32 rfl (lv_at hl 0 rfl) ?_
      refine fg_get (C := RX0) (T := TX0) (N := 13) (ci := 1) (g := 5) (i := 0) (v := .ref (G.ad 0 0)) hx hb hown hts hX hC in_X0 rfl (cin rfl) rfl 3 (by decide) q425 (fun _ h => h) rfl dX0_cellsIn_33 ?_
      refine fc_V (As := []) (rest := []) hx hb hml hown hts hX hC (m_X4_passes (hw.ticks _)) (lw_V q714 q715 q716 q115 q717) hdV_X4_passes ⟨rfl, rfl⟩ ⟨Nat.le_of_ble_eq_true rfl, Nat.le_of_ble_eq_true rfl⟩ (fx_recv (g := 0) (i := 0) (ci := 0) (q := (RX4, TX4, 9)) hX hC (cin rfl) rfl rfl) hl.1 rfl (Nat.le_of_ble_eq_true rfl) ⟨Nat.zero_le _, Nat.zero_le _⟩ dX0_cellsIn_36 (fun _ H locs hC => ?_)
      refine W.eq (g2 := F0 m 39 ls []) rfl ?_
      refine lv_lload_n hx hb dX0_cellsIn_39 rfl (lv_at hl 2 rfl) ?_
      refine lv_lconst (v := 1) hx hb dX0_cellsIn_40 rfl ?_
      refine lv_aload_n hx hb dX0_cellsIn_41 rfl (lv_at hl 0 rfl) ?_
      refine fg_get (C := RX0) (T := TX0) (N := 13) (ci := 1) (g := 5) (i := 0) (v := .ref (G.ad 0 0)) hx hb hown hts hX hC in_X0 rfl (cin rfl) rfl 3 (by decide) q425 (fun _ h => h) rfl dX0_cellsIn_42 ?_
      refine fg_getN (C := RX4) (T := TX4) (N := 9) (ci := 0) (g := 0) (i := 0) (v := .ref (G.ad 0 3)) hx hb hown hts hX hC in_X4 rfl (cin rfl) rfl 2 (by decide) (hX.2.2.1.F q246) (fun _ h => h) rfl dX0_cellsIn_45 ?_
      refine lv_iconst (v := 0) hx hb dX0_cellsIn_48 rfl ?_
      refine fg_iald (g := 0) (i := 3) (t0 := 0) (v := (p_tick (p_ticks i2 d)) 3) hx hb hX hC (cin rfl) rfl rfl (vin_b rfl) rfl dX0_cellsIn_49 ?_
      refine lv_lshl (v := 1 <<< (((p_tick (p_ticks i2 d)) 3).toInt64 &&& 63)) hx hb dX0_cellsIn_50 rfl ?_
      refine lv_lor hx hb dX0_cellsIn_51 ?_
      refine lv_lstore_n (lv' := [(2, .long ((p_cells d i2) ||| (1 <<< (((p_tick (p_ticks i2 d)) 3).toInt64 &&& 63)))), (0, .ref (G.ad 5 0)), (1, .int n), (4, .int (nI i2))]) hx hb dX0_cellsIn_52 rfl hl (by decide) rfl (fun ls hl => ?_)
      refine lv_iinc (v := nI (i2 + 1)) (lv' := [(4, .int (nI (i2 + 1))), (2, .long ((p_cells d i2) ||| (1 <<< (((p_tick (p_ticks i2 d)) 3).toInt64 &&& 63)))), (0, .ref (G.ad 5 0)), (1, .int n)]) hx hb dX0_cellsIn_53 hl (k := 3) rfl (nI_1 _) (by decide) rfl (fun ls hl => ?_)
      refine lv_goto (tgt := 26) hx hb dX0_cellsIn_56 (by decide) ?_
      exact ih2 (i2 + 1) (by omega) _ _ hC ls (lv_sub hl [2, 3, 1, 0] rfl)
  exact L_2 (ix n) 0 (by omega) _ _ hC ls (lv_sub hl [2, 3, 1, 0] rfl)
set_option maxRecDepth 100000 in
theorem m_X0_run {l : Launch} {G : Gc} {d kp as un to sc fd tp sh : Row} {sp : Nat → Option Nat} (hw : WF d) (n : Int32) : Cm l yX0_run (ws_ yX0_run cX0_run 2 (some .long)) ({ frames := 4, cells := 0, slots := 0, locals := 129 }) (cF G) [.ref (G.ad 5 0), .int n] (cct G (pg d kp as un to sc fd tp sh) sp) (fun u : Row => some (.long ((s_run d fd n).1))) (fun u => cct G (pg d kp u un to sc ((s_run d fd n).2) tp sh) sp) := by
  refine Cm.start (by decide) (Nat.le_of_ble_eq_true rfl) ?_
  intro p e s m below meth c hf hX hC ls hl
  obtain ⟨hx, hb, hr, hml, hown, hts, hlocks⟩ := hf
  have hl : lv_has ls 2 [(0, .ref (G.ad 5 0)), (1, .int n)] := hl
  have hown : s.vm.findClass "OwlEars" = some m.cls := hown
  refine lv_iload_n hx hb dX0_run_0 rfl (lv_at hl 1 rfl) ?_
  refine lv_iconst (v := 0) hx hb dX0_run_1 rfl ?_
  refine lv_sipush (v := 200) hx hb dX0_run_2 rfl ?_
  refine fc_S (As := [.int n, .int 0, .int 200]) (rest := []) hx hb hml hown hts hX hC (m_X0_in n 0 200) (lw_S q469 q470 q108 q471) hdS_X0_in ⟨rfl, rfl⟩ ⟨Nat.le_of_ble_eq_true rfl, Nat.le_of_ble_eq_true rfl⟩ hl.1 rfl (Nat.le_of_ble_eq_true rfl) ⟨Nat.zero_le _, Nat.zero_le _⟩ dX0_run_5 (fun _ H locs hC => ?_)
  refine W.eq (g2 := F0 m 8 ls [.int (b2i (p_in n 0 200))]) rfl ?_
  refine fb_eq (tgt := 19) hx hb dX0_run_8 (by decide) (fun c_2 => ?_) (fun c_2 => ?_)
  · refine lv_aload_n hx hb dX0_run_19 rfl (lv_at hl 0 rfl) ?_
    refine lv_iconst (v := 0) hx hb dX0_run_20 rfl ?_
    refine fc_V (As := [.int 0]) (rest := []) hx hb hml hown hts hX hC (m_X0_finding 0 (vin_b rfl)) (lw_V q472 q474 qs2 q108 q475) hdV_X0_finding ⟨rfl, rfl⟩ ⟨Nat.le_of_ble_eq_true rfl, Nat.le_of_ble_eq_true rfl⟩ (fx_recv (g := 5) (i := 0) (ci := 1) (q := (RX0, TX0, 13)) hX hC (cin rfl) rfl rfl) hl.1 rfl (Nat.le_of_ble_eq_true rfl) ⟨Nat.zero_le _, Nat.zero_le _⟩ dX0_run_21 (fun _ H locs hC => ?_)
    refine W.eq (g2 := F0 m 24 ls [.int (-1000001)]) rfl ?_
    refine lv_i2l (v := ((-1000001) : Int32).toInt64) hx hb dX0_run_24 rfl ?_
    have hs : s_run d fd n = ((((-1000001) : Int32).toInt64, p_find fd 0) : Int64 × Row) := by first | grind [s_run] | rfl
    exact fr_l hx hb hr hlocks hX hC as (congrArg (fun z => some (Value.long z)) (t2_1 hs)) (congrArg (fun z => cct G (pg d kp as un to sc z tp sh) sp) (t2_2 hs)).symm dX0_run_25
  · refine lv_aload_n hx hb dX0_run_11 rfl (lv_at hl 0 rfl) ?_
    refine lv_iload_n hx hb dX0_run_12 rfl (lv_at hl 1 rfl) ?_
    refine fc_VW (As := [.int n]) (rest := []) hx hb hml hown hts hX hC (m_X0_cellsIn hw n) (lw_VW q880 q882 qs18 q108 q883) hdV_X0_cellsIn ⟨rfl, rfl⟩ ⟨Nat.le_of_ble_eq_true rfl, Nat.le_of_ble_eq_true rfl⟩ (fx_recv (g := 5) (i := 0) (ci := 1) (q := (RX0, TX0, 13)) hX hC (cin rfl) rfl rfl) hl.1 rfl (Nat.le_of_ble_eq_true rfl) ⟨Nat.zero_le _, Nat.zero_le _⟩ dX0_run_13 (fun _ H locs hC => ?_)
    refine W.eq (g2 := F0 m 16 ls [.long (p_cells d (ix n))]) rfl ?_
    refine lv_goto (tgt := 25) hx hb dX0_run_16 (by decide) ?_
    have hs : s_run d fd n = ((p_cells d (ix n), fd) : Int64 × Row) := by first | grind [s_run] | rfl
    exact fr_l hx hb hr hlocks hX hC d (congrArg (fun z => some (Value.long z)) (t2_1 hs)) (congrArg (fun z => cct G (pg d kp d un to sc z tp sh) sp) (t2_2 hs)).symm dX0_run_25
set_option maxRecDepth 100000 in
theorem m_X0_soonestFor {l : Launch} {G : Gc} {d kp as un to sc fd tp sh : Row} {sp : Nat → Option Nat} (hw : WF d) (k : Int32) (hk : vp_in k 8) : Cm l yX0_soonestFor (wsW_ yX0_soonestFor cX0_soonestFor 5 (some .int) [(11, 54, 67, 0), (67, 69, 67, 0)]) ({ frames := 10, cells := 0, slots := 0, locals := 346 }) (cF G) [.ref (G.ad 5 0), .int k] (cct G (pg d kp as un to sc fd tp sh) sp) (fun u : Row => some (.int (p_soon d k))) (fun u => cct G (pg d kp u d to sc fd tp sh) sp) := by
  refine Cm.startW (by decide) (Nat.le_of_ble_eq_true rfl) ?_
  intro p e s m below meth c hf hX hC ls hl
  obtain ⟨hx, hb, hr, hml, hown, hts, hlocks⟩ := hf
  have hl : lv_has ls 5 [(0, .ref (G.ad 5 0)), (1, .int k)] := hl
  have hown : s.vm.findClass "OwlEars" = some m.cls := hown
  refine lv_aload_n hx hb dX0_soonestFor_0 rfl (lv_at hl 0 rfl) ?_
  refine fg_get (C := RX0) (T := TX0) (N := 13) (ci := 1) (g := 5) (i := 0) (v := .ref (G.ad 3 0)) hx hb hown hts hX hC in_X0 rfl (cin rfl) rfl 6 (by decide) q428 (fun _ h => h) rfl dX0_soonestFor_1 ?_
  refine lv_aload_n hx hb dX0_soonestFor_4 rfl (lv_at hl 0 rfl) ?_
  refine fg_get (C := RX0) (T := TX0) (N := 13) (ci := 1) (g := 5) (i := 0) (v := .ref (G.ad 0 0)) hx hb hown hts hX hC in_X0 rfl (cin rfl) rfl 3 (by decide) q425 (fun _ h => h) rfl dX0_soonestFor_5 ?_
  refine fc_V (As := [.ref (G.ad 0 0)]) (rest := []) hx hb hml hown hts hX hC (m_X4_become_30) (lw_V q700 q701 q702 q115 q703) hdV_X4_become ⟨rfl, rfl⟩ ⟨Nat.le_of_ble_eq_true rfl, Nat.le_of_ble_eq_true rfl⟩ (fx_recv (g := 3) (i := 0) (ci := 0) (q := (RX4, TX4, 9)) hX hC (cin rfl) rfl rfl) hl.1 rfl (Nat.le_of_ble_eq_true rfl) ⟨Nat.zero_le _, Nat.zero_le _⟩ dX0_soonestFor_8 (fun _ H locs hC => ?_)
  refine W.eq (g2 := F0 m 11 ls []) rfl ?_
  refine lv_iconst (v := 0) hx hb dX0_soonestFor_11 rfl ?_
  refine lv_istore_n (lv' := [(2, .int 0), (0, .ref (G.ad 5 0)), (1, .int k)]) hx hb dX0_soonestFor_12 rfl hl (by decide) rfl (fun ls hl => ?_)
  have L_2 : ∀ (k2 i2 : Nat), i2 + k2 = 201 → p_fst (fun i => p_has (p_ticks i d) k) 201 0 = p_fst (fun i => p_has (p_ticks i d) k) k2 i2 → ∀ (as2 : Row) (H : Heap) (locs : List Loc), fC (cF G) (cct G (pg (p_ticks i2 d) kp as2 d to sc fd tp sh) sp) s.heap H locs → ∀ ls : Array Slot, lv_has ls 5 [(2, .int (nI i2)), (0, .ref (G.ad 5 0)), (1, .int k)] → WG p l e ({ frames := 10, cells := 0, slots := 0, locals := 346 }) s m (([.ref (G.ad 5 0), .int k] : List Value).toArray) below meth c H locs (cF G) (fun u : Row => some (.int (p_soon d k))) (fun u => cct G (pg d kp u d to sc fd tp sh) sp) (F0 m 13 ls []) := by
    intro k2
    induction k2 with
    | zero =>
      intro i2 hi2 hJ2 as2 H locs hC ls hl
      obtain rfl : i2 = 201 := by omega
      refine lv_iload_n hx hb dX0_soonestFor_13 rfl (lv_at hl 0 rfl) ?_
      refine lv_sipush (v := 200) hx hb dX0_soonestFor_14 rfl ?_
      refine lv_icmp_gt (tgt := 41) hx hb dX0_soonestFor_17 (by decide) (fun _ => ?_) (fun z_3 => absurd (by decide) z_3)
      refine lv_iload_n hx hb dX0_soonestFor_41 rfl (lv_at hl 0 rfl) ?_
      refine lv_sipush (v := 200) hx hb dX0_soonestFor_42 rfl ?_
      refine lv_icmp_gt (tgt := 52) hx hb dX0_soonestFor_45 (by decide) (fun _ => ?_) (fun z_4 => absurd (by decide) z_4)
      refine lv_iconst (v := (-1)) hx hb dX0_soonestFor_52 rfl ?_
      refine lv_istore_n (lv' := [(3, .int (-1)), (2, .int (nI 201)), (0, .ref (G.ad 5 0)), (1, .int k)]) hx hb dX0_soonestFor_53 rfl hl (by decide) rfl (fun ls hl => ?_)
      refine lv_aload_n hx hb dX0_soonestFor_54 rfl (lv_at hl 2 rfl) ?_
      refine fg_get (C := RX0) (T := TX0) (N := 13) (ci := 1) (g := 5) (i := 0) (v := .ref (G.ad 0 0)) hx hb hown hts hX hC in_X0 rfl (cin rfl) rfl 3 (by decide) q425 (fun _ h => h) rfl dX0_soonestFor_55 ?_
      refine lv_aload_n hx hb dX0_soonestFor_58 rfl (lv_at hl 2 rfl) ?_
      refine fg_get (C := RX0) (T := TX0) (N := 13) (ci := 1) (g := 5) (i := 0) (v := .ref (G.ad 3 0)) hx hb hown hts hX hC in_X0 rfl (cin rfl) rfl 6 (by decide) q428 (fun _ h => h) rfl dX0_soonestFor_59 ?_
      refine fc_V (As := [.ref (G.ad 3 0)]) (rest := []) hx hb hml hown hts hX hC (m_X4_become_03) (lw_V q700 q701 q702 q115 q703) hdV_X4_become ⟨rfl, rfl⟩ ⟨Nat.le_of_ble_eq_true rfl, Nat.le_of_ble_eq_true rfl⟩ (fx_recv (g := 0) (i := 0) (ci := 0) (q := (RX4, TX4, 9)) hX hC (cin rfl) rfl rfl) hl.1 rfl (Nat.le_of_ble_eq_true rfl) ⟨Nat.zero_le _, Nat.zero_le _⟩ dX0_soonestFor_62 (fun _ H locs hC => ?_)
      refine W.eq (g2 := F0 m 65 ls []) rfl ?_
      refine lv_iload_n hx hb dX0_soonestFor_65 rfl (lv_at hl 0 rfl) ?_
      exact fr_i hx hb hr hlocks hX hC as2 (congrArg (fun z => some (Value.int z)) (hJ2)) rfl dX0_soonestFor_66
    | succ k2 ih2 =>
      intro i2 hi2 hJ2 as2 H locs hC ls hl
      refine lv_iload_n hx hb dX0_soonestFor_13 rfl (lv_at hl 0 rfl) ?_
      refine lv_sipush (v := 200) hx hb dX0_soonestFor_14 rfl ?_
      refine lv_icmp_gt (tgt := 41) hx hb dX0_soonestFor_17 (by decide) (fun z_6 => absurd z_6 (nI_nlt (a := 200) (b := i2) (by omega) (by decide))) (fun _ => ?_)
      refine lv_aload_n hx hb dX0_soonestFor_20 rfl (lv_at hl 1 rfl) ?_
      refine lv_iload_n hx hb dX0_soonestFor_21 rfl (lv_at hl 2 rfl) ?_
      refine fc_VW (As := [.int k]) (rest := []) hx hb hml hown hts hX hC (m_X0_hasIt (hw.ticks _) k hk) (lw_VW q696 q698 qs7 q108 q699) hdV_X0_hasIt ⟨rfl, rfl⟩ ⟨Nat.le_of_ble_eq_true rfl, Nat.le_of_ble_eq_true rfl⟩ (fx_recv (g := 5) (i := 0) (ci := 1) (q := (RX0, TX0, 13)) hX hC (cin rfl) rfl rfl) hl.1 rfl (Nat.le_of_ble_eq_true rfl) ⟨Nat.zero_le _, Nat.zero_le _⟩ dX0_soonestFor_22 (fun _ H locs hC => ?_)
      refine W.eq (g2 := F0 m 25 ls [.int (b2i (p_has (p_ticks i2 d) k))]) rfl ?_
      refine fb_ne (tgt := 41) hx hb dX0_soonestFor_25 (by decide) (fun c_8 => ?_) (fun c_8 => ?_)
      · refine lv_iload_n hx hb dX0_soonestFor_41 rfl (lv_at hl 0 rfl) ?_
        refine lv_sipush (v := 200) hx hb dX0_soonestFor_42 rfl ?_
        refine lv_icmp_gt (tgt := 52) hx hb dX0_soonestFor_45 (by decide) (fun z_9 => absurd z_9 (nI_nlt (a := 200) (b := i2) (by omega) (by decide))) (fun _ => ?_)
        refine lv_iload_n hx hb dX0_soonestFor_48 rfl (lv_at hl 0 rfl) ?_
        refine lv_goto (tgt := 53) hx hb dX0_soonestFor_49 (by decide) ?_
        refine lv_istore_n (lv' := [(3, .int (nI i2)), (2, .int (nI i2)), (0, .ref (G.ad 5 0)), (1, .int k)]) hx hb dX0_soonestFor_53 rfl hl (by decide) rfl (fun ls hl => ?_)
        refine lv_aload_n hx hb dX0_soonestFor_54 rfl (lv_at hl 2 rfl) ?_
        refine fg_get (C := RX0) (T := TX0) (N := 13) (ci := 1) (g := 5) (i := 0) (v := .ref (G.ad 0 0)) hx hb hown hts hX hC in_X0 rfl (cin rfl) rfl 3 (by decide) q425 (fun _ h => h) rfl dX0_soonestFor_55 ?_
        refine lv_aload_n hx hb dX0_soonestFor_58 rfl (lv_at hl 2 rfl) ?_
        refine fg_get (C := RX0) (T := TX0) (N := 13) (ci := 1) (g := 5) (i := 0) (v := .ref (G.ad 3 0)) hx hb hown hts hX hC in_X0 rfl (cin rfl) rfl 6 (by decide) q428 (fun _ h => h) rfl dX0_soonestFor_59 ?_
        refine fc_V (As := [.ref (G.ad 3 0)]) (rest := []) hx hb hml hown hts hX hC (m_X4_become_03) (lw_V q700 q701 q702 q115 q703) hdV_X4_become ⟨rfl, rfl⟩ ⟨Nat.le_of_ble_eq_true rfl, Nat.le_of_ble_eq_true rfl⟩ (fx_recv (g := 0) (i := 0) (ci := 0) (q := (RX4, TX4, 9)) hX hC (cin rfl) rfl rfl) hl.1 rfl (Nat.le_of_ble_eq_true rfl) ⟨Nat.zero_le _, Nat.zero_le _⟩ dX0_soonestFor_62 (fun _ H locs hC => ?_)
        refine W.eq (g2 := F0 m 65 ls []) rfl ?_
        refine lv_iload_n hx hb dX0_soonestFor_65 rfl (lv_at hl 0 rfl) ?_
        exact fr_i hx hb hr hlocks hX hC (p_ticks i2 d) (congrArg (fun z => some (Value.int z)) (hJ2.trans (p_fst_t c_8))) rfl dX0_soonestFor_66
      · refine lv_aload_n hx hb dX0_soonestFor_28 rfl (lv_at hl 1 rfl) ?_
        refine fg_get (C := RX0) (T := TX0) (N := 13) (ci := 1) (g := 5) (i := 0) (v := .ref (G.ad 0 0)) hx hb hown hts hX hC in_X0 rfl (cin rfl) rfl 3 (by decide) q425 (fun _ h => h) rfl dX0_soonestFor_29 ?_
        refine fc_V (As := []) (rest := []) hx hb hml hown hts hX hC (m_X4_passes (hw.ticks _)) (lw_V q714 q715 q716 q115 q717) hdV_X4_passes ⟨rfl, rfl⟩ ⟨Nat.le_of_ble_eq_true rfl, Nat.le_of_ble_eq_true rfl⟩ (fx_recv (g := 0) (i := 0) (ci := 0) (q := (RX4, TX4, 9)) hX hC (cin rfl) rfl rfl) hl.1 rfl (Nat.le_of_ble_eq_true rfl) ⟨Nat.zero_le _, Nat.zero_le _⟩ dX0_soonestFor_32 (fun _ H locs hC => ?_)
        refine W.eq (g2 := F0 m 35 ls []) rfl ?_
        refine lv_iinc (v := nI (i2 + 1)) (lv' := [(2, .int (nI (i2 + 1))), (0, .ref (G.ad 5 0)), (1, .int k)]) hx hb dX0_soonestFor_35 hl (k := 0) rfl (nI_1 _) (by decide) rfl (fun ls hl => ?_)
        refine lv_goto (tgt := 13) hx hb dX0_soonestFor_38 (by decide) ?_
        exact ih2 (i2 + 1) (by omega) (hJ2.trans (p_fst_f c_8)) _ _ _ hC ls (lv_sub hl [0, 1, 2] rfl)
  exact L_2 201 0 rfl rfl _ _ _ hC ls (lv_sub hl [0, 1, 2] rfl)
set_option maxRecDepth 100000 in
theorem m_X0_soonest {l : Launch} {G : Gc} {d kp as un to sc fd tp sh : Row} {sp : Nat → Option Nat} (hw : WF d) (k : Int32) : Cm l yX0_soonest (ws_ yX0_soonest cX0_soonest 2 (some .int)) ({ frames := 11, cells := 0, slots := 0, locals := 370 }) (cF G) [.ref (G.ad 5 0), .int k] (cct G (pg d kp as un to sc fd tp sh) sp) (fun u : Row × Row => some (.int ((s_soonest d fd k).1))) (fun u => cct G (pg d kp u.1 u.2 to sc ((s_soonest d fd k).2) tp sh) sp) := by
  refine Cm.start (by decide) (Nat.le_of_ble_eq_true rfl) ?_
  intro p e s m below meth c hf hX hC ls hl
  obtain ⟨hx, hb, hr, hml, hown, hts, hlocks⟩ := hf
  have hl : lv_has ls 2 [(0, .ref (G.ad 5 0)), (1, .int k)] := hl
  have hown : s.vm.findClass "OwlEars" = some m.cls := hown
  refine lv_aload_n hx hb dX0_soonest_0 rfl (lv_at hl 0 rfl) ?_
  refine lv_iload_n hx hb dX0_soonest_1 rfl (lv_at hl 1 rfl) ?_
  refine fc_V (As := [.int k]) (rest := []) hx hb hml hown hts hX hC (m_X0_isStrike k) (lw_V q538 q540 qs4 q108 q541) hdV_X0_isStrike ⟨rfl, rfl⟩ ⟨Nat.le_of_ble_eq_true rfl, Nat.le_of_ble_eq_true rfl⟩ (fx_recv (g := 5) (i := 0) (ci := 1) (q := (RX0, TX0, 13)) hX hC (cin rfl) rfl rfl) hl.1 rfl (Nat.le_of_ble_eq_true rfl) ⟨Nat.zero_le _, Nat.zero_le _⟩ dX0_soonest_2 (fun _ H locs hC => ?_)
  refine W.eq (g2 := F0 m 5 ls [.int (b2i (p_in k 0 (d 1 - 1)))]) rfl ?_
  refine fb_eq (tgt := 20) hx hb dX0_soonest_5 (by decide) (fun c_2 => ?_) (fun c_2 => ?_)
  · refine lv_aload_n hx hb dX0_soonest_20 rfl (lv_at hl 0 rfl) ?_
    refine lv_iconst (v := 0) hx hb dX0_soonest_21 rfl ?_
    refine fc_V (As := [.int 0]) (rest := []) hx hb hml hown hts hX hC (m_X0_finding 0 (vin_b rfl)) (lw_V q472 q474 qs2 q108 q475) hdV_X0_finding ⟨rfl, rfl⟩ ⟨Nat.le_of_ble_eq_true rfl, Nat.le_of_ble_eq_true rfl⟩ (fx_recv (g := 5) (i := 0) (ci := 1) (q := (RX0, TX0, 13)) hX hC (cin rfl) rfl rfl) hl.1 rfl (Nat.le_of_ble_eq_true rfl) ⟨Nat.zero_le _, Nat.zero_le _⟩ dX0_soonest_22 (fun _ H locs hC => ?_)
    refine W.eq (g2 := F0 m 25 ls [.int (-1000001)]) rfl ?_
    have hs : s_soonest d fd k = (((-1000001), p_find fd 0) : Int32 × Row) := by first | grind [s_soonest, p_none] | rfl
    exact fr_i hx hb hr hlocks hX hC ⟨as, un⟩ (congrArg (fun z => some (Value.int z)) (t2_1 hs)) (congrArg (fun z => cct G (pg d kp as un to sc z tp sh) sp) (t2_2 hs)).symm dX0_soonest_25
  · refine lv_aload_n hx hb dX0_soonest_8 rfl (lv_at hl 0 rfl) ?_
    refine lv_aload_n hx hb dX0_soonest_9 rfl (lv_at hl 0 rfl) ?_
    refine lv_iload_n hx hb dX0_soonest_10 rfl (lv_at hl 1 rfl) ?_
    refine fc_VW (As := [.int k]) (rest := [.ref (G.ad 5 0)]) hx hb hml hown hts hX hC (m_X0_soonestFor hw k (kin_of hw c_2)) (lw_VW q888 q890 qs19 q108 q891) hdV_X0_soonestFor ⟨rfl, rfl⟩ ⟨Nat.le_of_ble_eq_true rfl, Nat.le_of_ble_eq_true rfl⟩ (fx_recv (g := 5) (i := 0) (ci := 1) (q := (RX0, TX0, 13)) hX hC (cin rfl) rfl rfl) hl.1 rfl (Nat.le_of_ble_eq_true rfl) ⟨Nat.zero_le _, Nat.zero_le _⟩ dX0_soonest_11 (fun u_4 H locs hC => ?_)
    refine W.eq (g2 := F0 m 14 ls [.int (p_soon d k), .ref (G.ad 5 0)]) rfl ?_
    refine fc_V (As := [.int (p_soon d k)]) (rest := []) hx hb hml hown hts hX hC (m_X0_orNone (p_soon d k)) (lw_V q868 q870 qs17 q108 q871) hdV_X0_orNone ⟨rfl, rfl⟩ ⟨Nat.le_of_ble_eq_true rfl, Nat.le_of_ble_eq_true rfl⟩ (fx_recv (g := 5) (i := 0) (ci := 1) (q := (RX0, TX0, 13)) hX hC (cin rfl) rfl rfl) hl.1 rfl (Nat.le_of_ble_eq_true rfl) ⟨Nat.zero_le _, Nat.zero_le _⟩ dX0_soonest_14 (fun _ H locs hC => ?_)
    refine W.eq (g2 := F0 m 17 ls [.int (if (p_soon d k) = -1 then -1000004 else (p_soon d k))]) rfl ?_
    refine lv_goto (tgt := 25) hx hb dX0_soonest_17 (by decide) ?_
    have hs : s_soonest d fd k = ((if (p_soon d k) = -1 then -1000004 else (p_soon d k), if (p_soon d k) = -1 then p_find fd 3 else fd) : Int32 × Row) := by first | grind [s_soonest, p_none] | rfl
    exact fr_i hx hb hr hlocks hX hC ⟨u_4, d⟩ (congrArg (fun z => some (Value.int z)) (t2_1 hs)) (congrArg (fun z => cct G (pg d kp u_4 d to sc z tp sh) sp) (t2_2 hs)).symm dX0_soonest_25
set_option maxRecDepth 100000 in
theorem m_X0_chancesOf {l : Launch} {G : Gc} {d kp as un to sc fd tp sh : Row} {sp : Nat → Option Nat} (hw : WF d) (k n : Int32) (hk : vp_in k 8) : Cm l yX0_chancesOf (wsW_ yX0_chancesOf cX0_chancesOf 6 (some .int) [(11, 54, 68, 0), (68, 70, 68, 0)]) ({ frames := 10, cells := 0, slots := 0, locals := 346 }) (cF G) [.ref (G.ad 5 0), .int k, .int n] (cct G (pg d kp as un to sc fd tp sh) sp) (fun u : Row => some (.int (p_chances d k (ix n)))) (fun u => cct G (pg d kp u d to sc fd tp sh) sp) := by
  refine Cm.startW (by decide) (Nat.le_of_ble_eq_true rfl) ?_
  intro p e s m below meth c hf hX hC ls hl
  obtain ⟨hx, hb, hr, hml, hown, hts, hlocks⟩ := hf
  have hl : lv_has ls 6 [(0, .ref (G.ad 5 0)), (1, .int k), (2, .int n)] := hl
  have hown : s.vm.findClass "OwlEars" = some m.cls := hown
  refine lv_aload_n hx hb dX0_chancesOf_0 rfl (lv_at hl 0 rfl) ?_
  refine fg_get (C := RX0) (T := TX0) (N := 13) (ci := 1) (g := 5) (i := 0) (v := .ref (G.ad 3 0)) hx hb hown hts hX hC in_X0 rfl (cin rfl) rfl 6 (by decide) q428 (fun _ h => h) rfl dX0_chancesOf_1 ?_
  refine lv_aload_n hx hb dX0_chancesOf_4 rfl (lv_at hl 0 rfl) ?_
  refine fg_get (C := RX0) (T := TX0) (N := 13) (ci := 1) (g := 5) (i := 0) (v := .ref (G.ad 0 0)) hx hb hown hts hX hC in_X0 rfl (cin rfl) rfl 3 (by decide) q425 (fun _ h => h) rfl dX0_chancesOf_5 ?_
  refine fc_V (As := [.ref (G.ad 0 0)]) (rest := []) hx hb hml hown hts hX hC (m_X4_become_30) (lw_V q700 q701 q702 q115 q703) hdV_X4_become ⟨rfl, rfl⟩ ⟨Nat.le_of_ble_eq_true rfl, Nat.le_of_ble_eq_true rfl⟩ (fx_recv (g := 3) (i := 0) (ci := 0) (q := (RX4, TX4, 9)) hX hC (cin rfl) rfl rfl) hl.1 rfl (Nat.le_of_ble_eq_true rfl) ⟨Nat.zero_le _, Nat.zero_le _⟩ dX0_chancesOf_8 (fun _ H locs hC => ?_)
  refine W.eq (g2 := F0 m 11 ls []) rfl ?_
  refine lv_iconst (v := 0) hx hb dX0_chancesOf_11 rfl ?_
  refine lv_istore_n (lv' := [(3, .int 0), (0, .ref (G.ad 5 0)), (1, .int k), (2, .int n)]) hx hb dX0_chancesOf_12 rfl hl (by decide) rfl (fun ls hl => ?_)
  refine lv_iconst (v := 0) hx hb dX0_chancesOf_13 rfl ?_
  refine lv_istore (lv' := [(4, .int 0), (3, .int 0), (0, .ref (G.ad 5 0)), (1, .int k), (2, .int n)]) hx hb dX0_chancesOf_14 hl (by decide) rfl (fun ls hl => ?_)
  have L_2 : ∀ (k2 i2 : Nat), i2 + k2 = ix n → ∀ (as2 : Row) (H : Heap) (locs : List Loc), fC (cF G) (cct G (pg (p_ticks i2 d) kp as2 d to sc fd tp sh) sp) s.heap H locs → ∀ ls : Array Slot, lv_has ls 6 [(0, .ref (G.ad 5 0)), (1, .int k), (2, .int n), (3, .int (p_chances d k i2)), (4, .int (nI i2))] → WG p l e ({ frames := 10, cells := 0, slots := 0, locals := 346 }) s m (([.ref (G.ad 5 0), .int k, .int n] : List Value).toArray) below meth c H locs (cF G) (fun u : Row => some (.int (p_chances d k (ix n)))) (fun u => cct G (pg d kp u d to sc fd tp sh) sp) (F0 m 16 ls []) := by
    intro k2
    induction k2 with
    | zero =>
      intro i2 hi2 as2 H locs hC ls hl
      obtain rfl : i2 = ix n := by omega
      refine lv_iload hx hb dX0_chancesOf_16 (lv_at hl 4 rfl) ?_
      refine lv_iload_n hx hb dX0_chancesOf_18 rfl (lv_at hl 2 rfl) ?_
      refine fj_ge (tgt := 51) hx hb dX0_chancesOf_19 (by decide) (fun _ => ?_) (fun z_3 => absurd z_3 (nlt_ix (n := n)))
      refine lv_iload_n hx hb dX0_chancesOf_51 rfl (lv_at hl 3 rfl) ?_
      refine lv_istore (lv' := [(4, .int (p_chances d k (ix n))), (0, .ref (G.ad 5 0)), (1, .int k), (2, .int n), (3, .int (p_chances d k (ix n)))]) hx hb dX0_chancesOf_52 hl (by decide) rfl (fun ls hl => ?_)
      refine lv_aload_n hx hb dX0_chancesOf_54 rfl (lv_at hl 1 rfl) ?_
      refine fg_get (C := RX0) (T := TX0) (N := 13) (ci := 1) (g := 5) (i := 0) (v := .ref (G.ad 0 0)) hx hb hown hts hX hC in_X0 rfl (cin rfl) rfl 3 (by decide) q425 (fun _ h => h) rfl dX0_chancesOf_55 ?_
      refine lv_aload_n hx hb dX0_chancesOf_58 rfl (lv_at hl 1 rfl) ?_
      refine fg_get (C := RX0) (T := TX0) (N := 13) (ci := 1) (g := 5) (i := 0) (v := .ref (G.ad 3 0)) hx hb hown hts hX hC in_X0 rfl (cin rfl) rfl 6 (by decide) q428 (fun _ h => h) rfl dX0_chancesOf_59 ?_
      refine fc_V (As := [.ref (G.ad 3 0)]) (rest := []) hx hb hml hown hts hX hC (m_X4_become_03) (lw_V q700 q701 q702 q115 q703) hdV_X4_become ⟨rfl, rfl⟩ ⟨Nat.le_of_ble_eq_true rfl, Nat.le_of_ble_eq_true rfl⟩ (fx_recv (g := 0) (i := 0) (ci := 0) (q := (RX4, TX4, 9)) hX hC (cin rfl) rfl rfl) hl.1 rfl (Nat.le_of_ble_eq_true rfl) ⟨Nat.zero_le _, Nat.zero_le _⟩ dX0_chancesOf_62 (fun _ H locs hC => ?_)
      refine W.eq (g2 := F0 m 65 ls []) rfl ?_
      refine lv_iload hx hb dX0_chancesOf_65 (lv_at hl 0 rfl) ?_
      exact fr_i hx hb hr hlocks hX hC as2 rfl rfl dX0_chancesOf_67
    | succ k2 ih2 =>
      intro i2 hi2 as2 H locs hC ls hl
      have hz2 : i2 < 2147483648 := by have := ix_lt n; omega
      refine lv_iload hx hb dX0_chancesOf_16 (lv_at hl 4 rfl) ?_
      refine lv_iload_n hx hb dX0_chancesOf_18 rfl (lv_at hl 2 rfl) ?_
      refine fj_ge (tgt := 51) hx hb dX0_chancesOf_19 (by decide) (fun z_5 => absurd (lt_ix (n := n) (show i2 < ix n by omega)) z_5) (fun _ => ?_)
      refine lv_iload_n hx hb dX0_chancesOf_22 rfl (lv_at hl 3 rfl) ?_
      refine lv_aload_n hx hb dX0_chancesOf_23 rfl (lv_at hl 0 rfl) ?_
      refine lv_iload_n hx hb dX0_chancesOf_24 rfl (lv_at hl 1 rfl) ?_
      refine fc_VW (As := [.int k]) (rest := [.int (p_chances d k i2)]) hx hb hml hown hts hX hC (m_X0_hasIt (hw.ticks _) k hk) (lw_VW q696 q698 qs7 q108 q699) hdV_X0_hasIt ⟨rfl, rfl⟩ ⟨Nat.le_of_ble_eq_true rfl, Nat.le_of_ble_eq_true rfl⟩ (fx_recv (g := 5) (i := 0) (ci := 1) (q := (RX0, TX0, 13)) hX hC (cin rfl) rfl rfl) hl.1 rfl (Nat.le_of_ble_eq_true rfl) ⟨Nat.zero_le _, Nat.zero_le _⟩ dX0_chancesOf_25 (fun _ H locs hC => ?_)
      refine W.eq (g2 := F0 m 28 ls [.int (b2i (p_has (p_ticks i2 d) k)), .int (p_chances d k i2)]) rfl ?_
      refine fw_joinb (C := p_has (p_ticks i2 d) k) (pcj := 36) (ls := ls) (rest := [.int (p_chances d k i2)]) (fun ja jb => ?_) ?_
      · refine fb_eq (tgt := 35) hx hb dX0_chancesOf_28 (by decide) (fun c_7 => ?_) (fun c_7 => ?_)
        · refine lv_iconst (v := 0) hx hb dX0_chancesOf_35 rfl ?_
          exact jb c_7
        · refine lv_iconst (v := 1) hx hb dX0_chancesOf_31 rfl ?_
          refine lv_goto (tgt := 36) hx hb dX0_chancesOf_32 (by decide) ?_
          exact ja c_7
      refine lv_iadd hx hb dX0_chancesOf_36 ?_
      refine lv_istore_n (lv' := [(3, .int ((p_chances d k i2) + (b2i (p_has (p_ticks i2 d) k)))), (0, .ref (G.ad 5 0)), (1, .int k), (2, .int n), (4, .int (nI i2))]) hx hb dX0_chancesOf_37 rfl hl (by decide) rfl (fun ls hl => ?_)
      refine lv_aload_n hx hb dX0_chancesOf_38 rfl (lv_at hl 1 rfl) ?_
      refine fg_get (C := RX0) (T := TX0) (N := 13) (ci := 1) (g := 5) (i := 0) (v := .ref (G.ad 0 0)) hx hb hown hts hX hC in_X0 rfl (cin rfl) rfl 3 (by decide) q425 (fun _ h => h) rfl dX0_chancesOf_39 ?_
      refine fc_V (As := []) (rest := []) hx hb hml hown hts hX hC (m_X4_passes (hw.ticks _)) (lw_V q714 q715 q716 q115 q717) hdV_X4_passes ⟨rfl, rfl⟩ ⟨Nat.le_of_ble_eq_true rfl, Nat.le_of_ble_eq_true rfl⟩ (fx_recv (g := 0) (i := 0) (ci := 0) (q := (RX4, TX4, 9)) hX hC (cin rfl) rfl rfl) hl.1 rfl (Nat.le_of_ble_eq_true rfl) ⟨Nat.zero_le _, Nat.zero_le _⟩ dX0_chancesOf_42 (fun _ H locs hC => ?_)
      refine W.eq (g2 := F0 m 45 ls []) rfl ?_
      refine lv_iinc (v := nI (i2 + 1)) (lv' := [(4, .int (nI (i2 + 1))), (3, .int ((p_chances d k i2) + (b2i (p_has (p_ticks i2 d) k)))), (0, .ref (G.ad 5 0)), (1, .int k), (2, .int n)]) hx hb dX0_chancesOf_45 hl (k := 4) rfl (nI_1 _) (by decide) rfl (fun ls hl => ?_)
      refine lv_goto (tgt := 16) hx hb dX0_chancesOf_48 (by decide) ?_
      exact ih2 (i2 + 1) (by omega) _ _ _ hC ls (lv_sub hl [2, 3, 4, 1, 0] rfl)
  exact L_2 (ix n) 0 (by omega) _ _ _ hC ls (lv_sub hl [2, 3, 4, 1, 0] rfl)
set_option maxRecDepth 100000 in
theorem m_X0_chances {l : Launch} {G : Gc} {d kp as un to sc fd tp sh : Row} {sp : Nat → Option Nat} (hw : WF d) (k n : Int32) : Cm l yX0_chances (ws_ yX0_chances cX0_chances 3 (some .int)) ({ frames := 11, cells := 0, slots := 0, locals := 371 }) (cF G) [.ref (G.ad 5 0), .int k, .int n] (cct G (pg d kp as un to sc fd tp sh) sp) (fun u : Row × Row => some (.int ((s_chances d fd k n).1))) (fun u => cct G (pg d kp u.1 u.2 to sc ((s_chances d fd k n).2) tp sh) sp) := by
  refine Cm.start (by decide) (Nat.le_of_ble_eq_true rfl) ?_
  intro p e s m below meth c hf hX hC ls hl
  obtain ⟨hx, hb, hr, hml, hown, hts, hlocks⟩ := hf
  have hl : lv_has ls 3 [(0, .ref (G.ad 5 0)), (1, .int k), (2, .int n)] := hl
  have hown : s.vm.findClass "OwlEars" = some m.cls := hown
  refine lv_aload_n hx hb dX0_chances_0 rfl (lv_at hl 0 rfl) ?_
  refine lv_iload_n hx hb dX0_chances_1 rfl (lv_at hl 1 rfl) ?_
  refine fc_V (As := [.int k]) (rest := []) hx hb hml hown hts hX hC (m_X0_isStrike k) (lw_V q538 q540 qs4 q108 q541) hdV_X0_isStrike ⟨rfl, rfl⟩ ⟨Nat.le_of_ble_eq_true rfl, Nat.le_of_ble_eq_true rfl⟩ (fx_recv (g := 5) (i := 0) (ci := 1) (q := (RX0, TX0, 13)) hX hC (cin rfl) rfl rfl) hl.1 rfl (Nat.le_of_ble_eq_true rfl) ⟨Nat.zero_le _, Nat.zero_le _⟩ dX0_chances_2 (fun _ H locs hC => ?_)
  refine W.eq (g2 := F0 m 5 ls [.int (b2i (p_in k 0 (d 1 - 1)))]) rfl ?_
  refine fb_eq (tgt := 28) hx hb dX0_chances_5 (by decide) (fun c_2 => ?_) (fun c_2 => ?_)
  · refine lv_aload_n hx hb dX0_chances_28 rfl (lv_at hl 0 rfl) ?_
    refine lv_iconst (v := 0) hx hb dX0_chances_29 rfl ?_
    refine fc_V (As := [.int 0]) (rest := []) hx hb hml hown hts hX hC (m_X0_finding 0 (vin_b rfl)) (lw_V q472 q474 qs2 q108 q475) hdV_X0_finding ⟨rfl, rfl⟩ ⟨Nat.le_of_ble_eq_true rfl, Nat.le_of_ble_eq_true rfl⟩ (fx_recv (g := 5) (i := 0) (ci := 1) (q := (RX0, TX0, 13)) hX hC (cin rfl) rfl rfl) hl.1 rfl (Nat.le_of_ble_eq_true rfl) ⟨Nat.zero_le _, Nat.zero_le _⟩ dX0_chances_30 (fun _ H locs hC => ?_)
    refine W.eq (g2 := F0 m 33 ls [.int (-1000001)]) rfl ?_
    have hs : s_chances d fd k n = (((-1000001), p_find fd 0) : Int32 × Row) := by first | grind [s_chances] | rfl
    exact fr_i hx hb hr hlocks hX hC ⟨as, un⟩ (congrArg (fun z => some (Value.int z)) (t2_1 hs)) (congrArg (fun z => cct G (pg d kp as un to sc z tp sh) sp) (t2_2 hs)).symm dX0_chances_33
  · refine lv_iload_n hx hb dX0_chances_8 rfl (lv_at hl 2 rfl) ?_
    refine lv_iconst (v := 0) hx hb dX0_chances_9 rfl ?_
    refine lv_sipush (v := 200) hx hb dX0_chances_10 rfl ?_
    refine fc_S (As := [.int n, .int 0, .int 200]) (rest := []) hx hb hml hown hts hX hC (m_X0_in n 0 200) (lw_S q469 q470 q108 q471) hdS_X0_in ⟨rfl, rfl⟩ ⟨Nat.le_of_ble_eq_true rfl, Nat.le_of_ble_eq_true rfl⟩ hl.1 rfl (Nat.le_of_ble_eq_true rfl) ⟨Nat.zero_le _, Nat.zero_le _⟩ dX0_chances_13 (fun _ H locs hC => ?_)
    refine W.eq (g2 := F0 m 16 ls [.int (b2i (p_in n 0 200))]) rfl ?_
    refine fb_eq (tgt := 28) hx hb dX0_chances_16 (by decide) (fun c_5 => ?_) (fun c_5 => ?_)
    · refine lv_aload_n hx hb dX0_chances_28 rfl (lv_at hl 0 rfl) ?_
      refine lv_iconst (v := 0) hx hb dX0_chances_29 rfl ?_
      refine fc_V (As := [.int 0]) (rest := []) hx hb hml hown hts hX hC (m_X0_finding 0 (vin_b rfl)) (lw_V q472 q474 qs2 q108 q475) hdV_X0_finding ⟨rfl, rfl⟩ ⟨Nat.le_of_ble_eq_true rfl, Nat.le_of_ble_eq_true rfl⟩ (fx_recv (g := 5) (i := 0) (ci := 1) (q := (RX0, TX0, 13)) hX hC (cin rfl) rfl rfl) hl.1 rfl (Nat.le_of_ble_eq_true rfl) ⟨Nat.zero_le _, Nat.zero_le _⟩ dX0_chances_30 (fun _ H locs hC => ?_)
      refine W.eq (g2 := F0 m 33 ls [.int (-1000001)]) rfl ?_
      have hs : s_chances d fd k n = (((-1000001), p_find fd 0) : Int32 × Row) := by first | grind [s_chances] | rfl
      exact fr_i hx hb hr hlocks hX hC ⟨as, un⟩ (congrArg (fun z => some (Value.int z)) (t2_1 hs)) (congrArg (fun z => cct G (pg d kp as un to sc z tp sh) sp) (t2_2 hs)).symm dX0_chances_33
    · refine lv_aload_n hx hb dX0_chances_19 rfl (lv_at hl 0 rfl) ?_
      refine lv_iload_n hx hb dX0_chances_20 rfl (lv_at hl 1 rfl) ?_
      refine lv_iload_n hx hb dX0_chances_21 rfl (lv_at hl 2 rfl) ?_
      refine fc_VW (As := [.int k, .int n]) (rest := []) hx hb hml hown hts hX hC (m_X0_chancesOf hw k n (kin_of hw c_2)) (lw_VW q896 q898 qs20 q108 q899) hdV_X0_chancesOf ⟨rfl, rfl⟩ ⟨Nat.le_of_ble_eq_true rfl, Nat.le_of_ble_eq_true rfl⟩ (fx_recv (g := 5) (i := 0) (ci := 1) (q := (RX0, TX0, 13)) hX hC (cin rfl) rfl rfl) hl.1 rfl (Nat.le_of_ble_eq_true rfl) ⟨Nat.zero_le _, Nat.zero_le _⟩ dX0_chances_22 (fun u_7 H locs hC => ?_)
      refine W.eq (g2 := F0 m 25 ls [.int (p_chances d k (ix n))]) rfl ?_
      refine lv_goto (tgt := 33) hx hb dX0_chances_25 (by decide) ?_
      have hs : s_chances d fd k n = ((p_chances d k (ix n), fd) : Int32 × Row) := by first | grind [s_chances] | rfl
      exact fr_i hx hb hr hlocks hX hC ⟨u_7, d⟩ (congrArg (fun z => some (Value.int z)) (t2_1 hs)) (congrArg (fun z => cct G (pg d kp u_7 d to sc z tp sh) sp) (t2_2 hs)).symm dX0_chances_33
