theorem hdS_X0_isSpot : yX0_isSpot.cls ≠ "java/lang/invoke/MethodHandle" ∧ yX0_isSpot.cls ≠ "java/lang/invoke/VarHandle" ∧ (parseMethodDescriptor yX0_isSpot.desc).map (fun d => d.parameters.length) = some 1 := by decide +kernel
set_option maxRecDepth 100000 in
theorem m_X0_seed {l : Launch} {G : Gc} {d kp as un to sc fd tp sh : Row} {sp : Nat → Option Nat} (v : Int32) : Cm l yX0_seed (ws_ yX0_seed cX0_seed 3 (some .int)) ({ frames := 0, cells := 0, slots := 0, locals := 0 }) (cF G) [.ref (G.ad 5 0), .int v] (cct G (pg d kp as un to sc fd tp sh) sp) (fun _ : Unit => some (.int (d 2))) (fun _ => cct G (pg (upd d 2 v) kp as un to sc fd tp sh) sp) := by
  refine Cm.start (by decide) (Nat.le_of_ble_eq_true rfl) ?_
  intro p e s m below meth c hf hX hC ls hl
  obtain ⟨hx, hb, hr, hml, hown, hts, hlocks⟩ := hf
  have hl : lv_has ls 3 [(0, .ref (G.ad 5 0)), (1, .int v)] := hl
  have hown : s.vm.findClass "OwlEars" = some m.cls := hown
  refine lv_aload_n hx hb dX0_seed_0 rfl (lv_at hl 0 rfl) ?_
  refine fg_get (C := RX0) (T := TX0) (N := 13) (ci := 1) (g := 5) (i := 0) (v := .ref (G.ad 0 0)) hx hb hown hts hX hC in_X0 rfl (cin rfl) rfl 3 (by decide) q425 (fun _ h => h) rfl dX0_seed_1 ?_
  refine fg_getN (C := RX4) (T := TX4) (N := 9) (ci := 0) (g := 0) (i := 0) (v := .int (d 2)) hx hb hown hts hX hC in_X4 rfl (cin rfl) rfl 7 (by decide) (hX.2.2.1.F q261) (fun _ h => h) rfl dX0_seed_4 ?_
  refine lv_istore_n (lv' := [(2, .int (d 2)), (0, .ref (G.ad 5 0)), (1, .int v)]) hx hb dX0_seed_7 rfl hl (by decide) rfl (fun ls hl => ?_)
  refine lv_aload_n hx hb dX0_seed_8 rfl (lv_at hl 1 rfl) ?_
  refine fg_get (C := RX0) (T := TX0) (N := 13) (ci := 1) (g := 5) (i := 0) (v := .ref (G.ad 0 0)) hx hb hown hts hX hC in_X0 rfl (cin rfl) rfl 3 (by decide) q425 (fun _ h => h) rfl dX0_seed_9 ?_
  refine lv_iload_n hx hb dX0_seed_12 rfl (lv_at hl 2 rfl) ?_
  refine fg_putN (C := RX4) (T := TX4) (N := 9) (ci := 0) (g := 0) (i := 0) hx hb hown hts hX hC in_X4 tyX4 tyX4_ok nmX4 rfl (cin rfl) rfl 7 (by decide) (hX.2.2.1.F q261) (fun _ h => h) rfl rfl rfl (Nat.le_of_ble_eq_true rfl) (cct G (pg (upd d 2 v) kp as un to sc fd tp sh) sp) cs_z dX0_seed_13 (fun H locs hC => ?_)
  refine lv_iload_n hx hb dX0_seed_16 rfl (lv_at hl 0 rfl) ?_
  exact fr_i hx hb hr hlocks hX hC () rfl rfl dX0_seed_17
set_option maxRecDepth 100000 in
theorem m_X0_wipe {l : Launch} {G : Gc} {d kp as un to sc fd tp sh : Row} {sp : Nat → Option Nat}  : Cm l yX0_wipe (ws_ yX0_wipe cX0_wipe 2 (some .int)) ({ frames := 0, cells := 0, slots := 0, locals := 0 }) (cF G) [.ref (G.ad 5 0)] (cct G (pg d kp as un to sc fd tp sh) sp) (fun _ : Unit => some (.int (sc 0))) (fun _ => cct G (pg d kp as un to (upd sc 0 0) fd tp sh) sp) := by
  refine Cm.start (by decide) (Nat.le_of_ble_eq_true rfl) ?_
  intro p e s m below meth c hf hX hC ls hl
  obtain ⟨hx, hb, hr, hml, hown, hts, hlocks⟩ := hf
  have hl : lv_has ls 2 [(0, .ref (G.ad 5 0))] := hl
  have hown : s.vm.findClass "OwlEars" = some m.cls := hown
  refine lv_aload_n hx hb dX0_wipe_0 rfl (lv_at hl 0 rfl) ?_
  refine fg_get (C := RX0) (T := TX0) (N := 13) (ci := 1) (g := 5) (i := 0) (v := .int (sc 0)) hx hb hown hts hX hC in_X0 rfl (cin rfl) rfl 2 (by decide) q423 (fun _ h => h) rfl dX0_wipe_1 ?_
  refine lv_istore_n (lv' := [(1, .int (sc 0)), (0, .ref (G.ad 5 0))]) hx hb dX0_wipe_4 rfl hl (by decide) rfl (fun ls hl => ?_)
  refine lv_aload_n hx hb dX0_wipe_5 rfl (lv_at hl 1 rfl) ?_
  refine lv_iconst (v := 0) hx hb dX0_wipe_6 rfl ?_
  refine fg_put (C := RX0) (T := TX0) (N := 13) (ci := 1) (g := 5) (i := 0) hx hb hown hts hX hC in_X0 tyX0 tyX0_ok nmX0 rfl (cin rfl) rfl 2 (by decide) q423 (fun _ h => h) rfl rfl rfl (Nat.le_of_ble_eq_true rfl) (cct G (pg d kp as un to (upd sc 0 0) fd tp sh) sp) cs_sc0 dX0_wipe_7 (fun H locs hC => ?_)
  refine lv_iload_n hx hb dX0_wipe_10 rfl (lv_at hl 0 rfl) ?_
  exact fr_i hx hb hr hlocks hX hC () rfl rfl dX0_wipe_11
set_option maxRecDepth 100000 in
theorem m_X0_tear {l : Launch} {G : Gc} {d kp as un to sc fd tp sh : Row} {sp : Nat → Option Nat}  : Cm l yX0_tear (ws_ yX0_tear cX0_tear 2 (some .int)) ({ frames := 0, cells := 0, slots := 0, locals := 0 }) (cF G) [.ref (G.ad 5 0)] (cct G (pg d kp as un to sc fd tp sh) sp) (fun _ : Unit => some (.int (if sc 1 = 0 then 0 else 1))) (fun _ => cct G (pg d kp as un to (upd sc 1 0) fd tp sh) sp) := by
  refine Cm.start (by decide) (Nat.le_of_ble_eq_true rfl) ?_
  intro p e s m below meth c hf hX hC ls hl
  obtain ⟨hx, hb, hr, hml, hown, hts, hlocks⟩ := hf
  have hl : lv_has ls 2 [(0, .ref (G.ad 5 0))] := hl
  have hown : s.vm.findClass "OwlEars" = some m.cls := hown
  refine lv_aload_n hx hb dX0_tear_0 rfl (lv_at hl 0 rfl) ?_
  refine fg_get (C := RX0) (T := TX0) (N := 13) (ci := 1) (g := 5) (i := 0) (v := .int (sc 1)) hx hb hown hts hX hC in_X0 rfl (cin rfl) rfl 7 (by decide) q429 (fun _ h => h) rfl dX0_tear_1 ?_
  refine fw_joinb (C := ¬ ((sc 1) = 0)) (pcj := 12) (ls := ls) (rest := []) (fun jb ja => ?_) ?_
  · refine lv_if_eq (tgt := 11) hx hb dX0_tear_4 (by decide) (fun c_1 => ?_) (fun c_1 => ?_)
    · refine lv_iconst (v := 0) hx hb dX0_tear_11 rfl ?_
      exact ja (fun z => z c_1)
    · refine lv_iconst (v := 1) hx hb dX0_tear_7 rfl ?_
      refine lv_goto (tgt := 12) hx hb dX0_tear_8 (by decide) ?_
      exact jb c_1
  refine lv_istore_n (lv' := [(1, .int (b2i (¬ ((sc 1) = 0)))), (0, .ref (G.ad 5 0))]) hx hb dX0_tear_12 rfl hl (by decide) rfl (fun ls hl => ?_)
  refine lv_aload_n hx hb dX0_tear_13 rfl (lv_at hl 1 rfl) ?_
  refine lv_iconst (v := 0) hx hb dX0_tear_14 rfl ?_
  refine fg_put (C := RX0) (T := TX0) (N := 13) (ci := 1) (g := 5) (i := 0) hx hb hown hts hX hC in_X0 tyX0 tyX0_ok nmX0 rfl (cin rfl) rfl 7 (by decide) q429 (fun _ h => h) rfl rfl rfl (Nat.le_of_ble_eq_true rfl) (cct G (pg d kp as un to (upd sc 1 0) fd tp sh) sp) cs_sc1 dX0_tear_15 (fun H locs hC => ?_)
  refine lv_iload_n hx hb dX0_tear_18 rfl (lv_at hl 0 rfl) ?_
  exact fr_i hx hb hr hlocks hX hC () (congrArg (fun z => some (Value.int z)) (by grind [b2i])) rfl dX0_tear_19
set_option maxRecDepth 100000 in
theorem m_X0_image {l : Launch} {G : Gc} {d kp as un to sc fd tp sh : Row} {sp : Nat → Option Nat}  : Cm l yX0_image (ws_ yX0_image cX0_image 1 (some .int)) ({ frames := 3, cells := 0, slots := 0, locals := 103 }) (cF G) [.ref (G.ad 5 0)] (cct G (pg d kp as un to sc fd tp sh) sp) (fun _ : Unit => some (.int 1)) (fun _ => cct G (pg d d as un to (upd sc 1 1) fd tp sh) sp) := by
  refine Cm.start (by decide) (Nat.le_of_ble_eq_true rfl) ?_
  intro p e s m below meth c hf hX hC ls hl
  obtain ⟨hx, hb, hr, hml, hown, hts, hlocks⟩ := hf
  have hl : lv_has ls 1 [(0, .ref (G.ad 5 0))] := hl
  have hown : s.vm.findClass "OwlEars" = some m.cls := hown
  refine lv_aload_n hx hb dX0_image_0 rfl (lv_at hl 0 rfl) ?_
  refine fg_get (C := RX0) (T := TX0) (N := 13) (ci := 1) (g := 5) (i := 0) (v := .ref (G.ad 1 0)) hx hb hown hts hX hC in_X0 rfl (cin rfl) rfl 4 (by decide) q426 (fun _ h => h) rfl dX0_image_1 ?_
  refine lv_aload_n hx hb dX0_image_4 rfl (lv_at hl 0 rfl) ?_
  refine fg_get (C := RX0) (T := TX0) (N := 13) (ci := 1) (g := 5) (i := 0) (v := .ref (G.ad 0 0)) hx hb hown hts hX hC in_X0 rfl (cin rfl) rfl 3 (by decide) q425 (fun _ h => h) rfl dX0_image_5 ?_
  refine fc_V (As := [.ref (G.ad 0 0)]) (rest := []) hx hb hml hown hts hX hC (m_X4_become_10) (lw_V q700 q701 q702 q115 q703) hdV_X4_become ⟨rfl, rfl⟩ ⟨Nat.le_of_ble_eq_true rfl, Nat.le_of_ble_eq_true rfl⟩ (fx_recv (g := 1) (i := 0) (ci := 0) (q := (RX4, TX4, 9)) hX hC (cin rfl) rfl rfl) hl.1 rfl (Nat.le_of_ble_eq_true rfl) ⟨Nat.zero_le _, Nat.zero_le _⟩ dX0_image_8 (fun _ H locs hC => ?_)
  refine W.eq (g2 := F0 m 11 ls []) rfl ?_
  refine lv_aload_n hx hb dX0_image_11 rfl (lv_at hl 0 rfl) ?_
  refine lv_iconst (v := 1) hx hb dX0_image_12 rfl ?_
  refine fg_put (C := RX0) (T := TX0) (N := 13) (ci := 1) (g := 5) (i := 0) hx hb hown hts hX hC in_X0 tyX0 tyX0_ok nmX0 rfl (cin rfl) rfl 7 (by decide) q429 (fun _ h => h) rfl rfl rfl (Nat.le_of_ble_eq_true rfl) (cct G (pg d d as un to (upd sc 1 1) fd tp sh) sp) cs_sc1 dX0_image_13 (fun H locs hC => ?_)
  refine lv_iconst (v := 1) hx hb dX0_image_16 rfl ?_
  exact fr_i hx hb hr hlocks hX hC () rfl rfl dX0_image_17
set_option maxRecDepth 100000 in
theorem m_X0_undo {l : Launch} {G : Gc} {d kp as un to sc fd tp sh : Row} {sp : Nat → Option Nat}  : Cm l yX0_undo (ws_ yX0_undo cX0_undo 1 (some .int)) ({ frames := 3, cells := 0, slots := 0, locals := 103 }) (cF G) [.ref (G.ad 5 0)] (cct G (pg d kp as un to sc fd tp sh) sp) (fun _ : Unit => some (.int ((s_undo d fd kp sc).1))) (fun _ => cct G (pg ((s_undo d fd kp sc).2.1) kp as un to sc ((s_undo d fd kp sc).2.2) tp sh) sp) := by
  refine Cm.start (by decide) (Nat.le_of_ble_eq_true rfl) ?_
  intro p e s m below meth c hf hX hC ls hl
  obtain ⟨hx, hb, hr, hml, hown, hts, hlocks⟩ := hf
  have hl : lv_has ls 1 [(0, .ref (G.ad 5 0))] := hl
  have hown : s.vm.findClass "OwlEars" = some m.cls := hown
  refine lv_aload_n hx hb dX0_undo_0 rfl (lv_at hl 0 rfl) ?_
  refine fg_get (C := RX0) (T := TX0) (N := 13) (ci := 1) (g := 5) (i := 0) (v := .int (sc 1)) hx hb hown hts hX hC in_X0 rfl (cin rfl) rfl 7 (by decide) q429 (fun _ h => h) rfl dX0_undo_1 ?_
  refine lv_if_ne (tgt := 13) hx hb dX0_undo_4 (by decide) (fun c_1 => ?_) (fun c_1 => ?_)
  · refine lv_aload_n hx hb dX0_undo_13 rfl (lv_at hl 0 rfl) ?_
    refine fg_get (C := RX0) (T := TX0) (N := 13) (ci := 1) (g := 5) (i := 0) (v := .ref (G.ad 0 0)) hx hb hown hts hX hC in_X0 rfl (cin rfl) rfl 3 (by decide) q425 (fun _ h => h) rfl dX0_undo_14 ?_
    refine lv_aload_n hx hb dX0_undo_17 rfl (lv_at hl 0 rfl) ?_
    refine fg_get (C := RX0) (T := TX0) (N := 13) (ci := 1) (g := 5) (i := 0) (v := .ref (G.ad 1 0)) hx hb hown hts hX hC in_X0 rfl (cin rfl) rfl 4 (by decide) q426 (fun _ h => h) rfl dX0_undo_18 ?_
    refine fc_V (As := [.ref (G.ad 1 0)]) (rest := []) hx hb hml hown hts hX hC (m_X4_become_01) (lw_V q700 q701 q702 q115 q703) hdV_X4_become ⟨rfl, rfl⟩ ⟨Nat.le_of_ble_eq_true rfl, Nat.le_of_ble_eq_true rfl⟩ (fx_recv (g := 0) (i := 0) (ci := 0) (q := (RX4, TX4, 9)) hX hC (cin rfl) rfl rfl) hl.1 rfl (Nat.le_of_ble_eq_true rfl) ⟨Nat.zero_le _, Nat.zero_le _⟩ dX0_undo_21 (fun _ H locs hC => ?_)
    refine W.eq (g2 := F0 m 24 ls []) rfl ?_
    refine lv_aload_n hx hb dX0_undo_24 rfl (lv_at hl 0 rfl) ?_
    refine fg_get (C := RX0) (T := TX0) (N := 13) (ci := 1) (g := 5) (i := 0) (v := .ref (G.ad 0 0)) hx hb hown hts hX hC in_X0 rfl (cin rfl) rfl 3 (by decide) q425 (fun _ h => h) rfl dX0_undo_25 ?_
    refine fg_getN (C := RX4) (T := TX4) (N := 9) (ci := 0) (g := 0) (i := 0) (v := .int (kp 0)) hx hb hown hts hX hC in_X4 rfl (cin rfl) rfl 6 (by decide) (hX.2.2.1.F q259) (fun _ h => h) rfl dX0_undo_28 ?_
    have hs : s_undo d fd kp sc = ((kp 0, kp, fd) : Int32 × Row × Row) := by first | grind [s_undo] | rfl
    exact fr_i hx hb hr hlocks hX hC () (congrArg (fun z => some (Value.int z)) (t3_1 hs)) ((congrArg (fun z => cct G (pg z kp as un to sc ((s_undo d fd kp sc).2.2) tp sh) sp) (t3_2 hs)).trans (congrArg (fun z => cct G (pg kp kp as un to sc z tp sh) sp) (t3_3 hs))).symm dX0_undo_31
  · refine lv_aload_n hx hb dX0_undo_7 rfl (lv_at hl 0 rfl) ?_
    refine lv_iconst (v := 3) hx hb dX0_undo_8 rfl ?_
    refine fc_V (As := [.int 3]) (rest := []) hx hb hml hown hts hX hC (m_X0_finding 3 (vin_b rfl)) (lw_V q472 q474 qs2 q108 q475) hdV_X0_finding ⟨rfl, rfl⟩ ⟨Nat.le_of_ble_eq_true rfl, Nat.le_of_ble_eq_true rfl⟩ (fx_recv (g := 5) (i := 0) (ci := 1) (q := (RX0, TX0, 13)) hX hC (cin rfl) rfl rfl) hl.1 rfl (Nat.le_of_ble_eq_true rfl) ⟨Nat.zero_le _, Nat.zero_le _⟩ dX0_undo_9 (fun _ H locs hC => ?_)
    refine W.eq (g2 := F0 m 12 ls [.int (-1000004)]) rfl ?_
    have hs : s_undo d fd kp sc = (((-1000004), d, p_find fd 3) : Int32 × Row × Row) := by first | grind [s_undo] | rfl
    exact fr_i hx hb hr hlocks hX hC () (congrArg (fun z => some (Value.int z)) (t3_1 hs)) ((congrArg (fun z => cct G (pg z kp as un to sc ((s_undo d fd kp sc).2.2) tp sh) sp) (t3_2 hs)).trans (congrArg (fun z => cct G (pg d kp as un to sc z tp sh) sp) (t3_3 hs))).symm dX0_undo_12
set_option maxRecDepth 100000 in
theorem m_X0_hold {l : Launch} {G : Gc} {d kp as un to sc fd tp sh : Row} {sp : Nat → Option Nat} (hw : WF d) (spot k : Int32) : Cm l yX0_hold (ws_ yX0_hold cX0_hold 3 (some .int)) ({ frames := 2, cells := 0, slots := 0, locals := 43 }) (cF G) [.ref (G.ad 5 0), .int spot, .int k] (cct G (pg d kp as un to sc fd tp sh) sp) (fun _ : Unit => some (.int ((s_hold d fd spot k).1))) (fun _ => cct G (pg ((s_hold d fd spot k).2.1) kp as un to sc ((s_hold d fd spot k).2.2) tp sh) sp) := by
  refine Cm.start (by decide) (Nat.le_of_ble_eq_true rfl) ?_
  intro p e s m below meth c hf hX hC ls hl
  obtain ⟨hx, hb, hr, hml, hown, hts, hlocks⟩ := hf
  have hl : lv_has ls 3 [(0, .ref (G.ad 5 0)), (1, .int spot), (2, .int k)] := hl
  have hown : s.vm.findClass "OwlEars" = some m.cls := hown
  refine lv_iload_n hx hb dX0_hold_0 rfl (lv_at hl 1 rfl) ?_
  refine fc_S (As := [.int spot]) (rest := []) hx hb hml hown hts hX hC (m_X0_isSpot spot) (lw_S q1184 q1185 q108 q1186) hdS_X0_isSpot ⟨rfl, rfl⟩ ⟨Nat.le_of_ble_eq_true rfl, Nat.le_of_ble_eq_true rfl⟩ hl.1 rfl (Nat.le_of_ble_eq_true rfl) ⟨Nat.zero_le _, Nat.zero_le _⟩ dX0_hold_1 (fun _ H locs hC => ?_)
  refine W.eq (g2 := F0 m 4 ls [.int (b2i (p_in spot 0 9))]) rfl ?_
  refine fb_eq (tgt := 20) hx hb dX0_hold_4 (by decide) (fun c_2 => ?_) (fun c_2 => ?_)
  · refine lv_aload_n hx hb dX0_hold_20 rfl (lv_at hl 0 rfl) ?_
    refine lv_iconst (v := 0) hx hb dX0_hold_21 rfl ?_
    refine fc_V (As := [.int 0]) (rest := []) hx hb hml hown hts hX hC (m_X0_finding 0 (vin_b rfl)) (lw_V q472 q474 qs2 q108 q475) hdV_X0_finding ⟨rfl, rfl⟩ ⟨Nat.le_of_ble_eq_true rfl, Nat.le_of_ble_eq_true rfl⟩ (fx_recv (g := 5) (i := 0) (ci := 1) (q := (RX0, TX0, 13)) hX hC (cin rfl) rfl rfl) hl.1 rfl (Nat.le_of_ble_eq_true rfl) ⟨Nat.zero_le _, Nat.zero_le _⟩ dX0_hold_22 (fun _ H locs hC => ?_)
    refine W.eq (g2 := F0 m 25 ls [.int (-1000001)]) rfl ?_
    have hs : s_hold d fd spot k = (((-1000001), d, p_find fd 0) : Int32 × Row × Row) := by first | grind [s_hold] | rfl
    exact fr_i hx hb hr hlocks hX hC () (congrArg (fun z => some (Value.int z)) (t3_1 hs)) ((congrArg (fun z => cct G (pg z kp as un to sc ((s_hold d fd spot k).2.2) tp sh) sp) (t3_2 hs)).trans (congrArg (fun z => cct G (pg d kp as un to sc z tp sh) sp) (t3_3 hs))).symm dX0_hold_25
  · refine lv_iload_n hx hb dX0_hold_7 rfl (lv_at hl 2 rfl) ?_
    refine lv_iconst (v := (-1)) hx hb dX0_hold_8 rfl ?_
    refine lv_icmp_eq (tgt := 26) hx hb dX0_hold_9 (by decide) (fun c_4 => ?_) (fun c_4 => ?_)
    · refine lv_aload_n hx hb dX0_hold_26 rfl (lv_at hl 0 rfl) ?_
      refine fg_get (C := RX0) (T := TX0) (N := 13) (ci := 1) (g := 5) (i := 0) (v := .ref (G.ad 0 0)) hx hb hown hts hX hC in_X0 rfl (cin rfl) rfl 3 (by decide) q425 (fun _ h => h) rfl dX0_hold_27 ?_
      refine fg_getN (C := RX4) (T := TX4) (N := 9) (ci := 0) (g := 0) (i := 0) (v := .ref (G.ad 0 10)) hx hb hown hts hX hC in_X4 rfl (cin rfl) rfl 8 (by decide) (hX.2.2.1.F q263) (fun _ h => h) rfl dX0_hold_30 ?_
      refine lv_iload_n hx hb dX0_hold_33 rfl (lv_at hl 1 rfl) ?_
      refine lv_iload_n hx hb dX0_hold_34 rfl (lv_at hl 2 rfl) ?_
      refine fg_iast (g := 0) (i := 10) (t0 := 0) hx hb hX hC (cin rfl) rfl rfl (vin_of c_2 10 (by decide)) (cct G (pg (upd d (10 + ix spot) k) kp as un to sc fd tp sh) sp) (cs_holds (k := ix spot) (vin_lt (vin_of c_2 10 (by decide)))) dX0_hold_35 (fun H locs hC => ?_)
      refine lv_iconst (v := 1) hx hb dX0_hold_36 rfl ?_
      have hs : s_hold d fd spot k = ((1, upd d (10 + ix spot) k, fd) : Int32 × Row × Row) := by first | grind [s_hold] | rfl
      exact fr_i hx hb hr hlocks hX hC () (congrArg (fun z => some (Value.int z)) (t3_1 hs)) ((congrArg (fun z => cct G (pg z kp as un to sc ((s_hold d fd spot k).2.2) tp sh) sp) (t3_2 hs)).trans (congrArg (fun z => cct G (pg (upd d (10 + ix spot) k) kp as un to sc z tp sh) sp) (t3_3 hs))).symm dX0_hold_37
    · refine lv_aload_n hx hb dX0_hold_12 rfl (lv_at hl 0 rfl) ?_
      refine lv_iload_n hx hb dX0_hold_13 rfl (lv_at hl 2 rfl) ?_
      refine fc_V (As := [.int k]) (rest := []) hx hb hml hown hts hX hC (m_X0_isStrike k) (lw_V q538 q540 qs4 q108 q541) hdV_X0_isStrike ⟨rfl, rfl⟩ ⟨Nat.le_of_ble_eq_true rfl, Nat.le_of_ble_eq_true rfl⟩ (fx_recv (g := 5) (i := 0) (ci := 1) (q := (RX0, TX0, 13)) hX hC (cin rfl) rfl rfl) hl.1 rfl (Nat.le_of_ble_eq_true rfl) ⟨Nat.zero_le _, Nat.zero_le _⟩ dX0_hold_14 (fun _ H locs hC => ?_)
      refine W.eq (g2 := F0 m 17 ls [.int (b2i (p_in k 0 (d 1 - 1)))]) rfl ?_
      refine fb_ne (tgt := 26) hx hb dX0_hold_17 (by decide) (fun c_6 => ?_) (fun c_6 => ?_)
      · refine lv_aload_n hx hb dX0_hold_26 rfl (lv_at hl 0 rfl) ?_
        refine fg_get (C := RX0) (T := TX0) (N := 13) (ci := 1) (g := 5) (i := 0) (v := .ref (G.ad 0 0)) hx hb hown hts hX hC in_X0 rfl (cin rfl) rfl 3 (by decide) q425 (fun _ h => h) rfl dX0_hold_27 ?_
        refine fg_getN (C := RX4) (T := TX4) (N := 9) (ci := 0) (g := 0) (i := 0) (v := .ref (G.ad 0 10)) hx hb hown hts hX hC in_X4 rfl (cin rfl) rfl 8 (by decide) (hX.2.2.1.F q263) (fun _ h => h) rfl dX0_hold_30 ?_
        refine lv_iload_n hx hb dX0_hold_33 rfl (lv_at hl 1 rfl) ?_
        refine lv_iload_n hx hb dX0_hold_34 rfl (lv_at hl 2 rfl) ?_
        refine fg_iast (g := 0) (i := 10) (t0 := 0) hx hb hX hC (cin rfl) rfl rfl (vin_of c_2 10 (by decide)) (cct G (pg (upd d (10 + ix spot) k) kp as un to sc fd tp sh) sp) (cs_holds (k := ix spot) (vin_lt (vin_of c_2 10 (by decide)))) dX0_hold_35 (fun H locs hC => ?_)
        refine lv_iconst (v := 1) hx hb dX0_hold_36 rfl ?_
        have hs : s_hold d fd spot k = ((1, upd d (10 + ix spot) k, fd) : Int32 × Row × Row) := by first | grind [s_hold] | rfl
        exact fr_i hx hb hr hlocks hX hC () (congrArg (fun z => some (Value.int z)) (t3_1 hs)) ((congrArg (fun z => cct G (pg z kp as un to sc ((s_hold d fd spot k).2.2) tp sh) sp) (t3_2 hs)).trans (congrArg (fun z => cct G (pg (upd d (10 + ix spot) k) kp as un to sc z tp sh) sp) (t3_3 hs))).symm dX0_hold_37
      · refine lv_aload_n hx hb dX0_hold_20 rfl (lv_at hl 0 rfl) ?_
        refine lv_iconst (v := 0) hx hb dX0_hold_21 rfl ?_
        refine fc_V (As := [.int 0]) (rest := []) hx hb hml hown hts hX hC (m_X0_finding 0 (vin_b rfl)) (lw_V q472 q474 qs2 q108 q475) hdV_X0_finding ⟨rfl, rfl⟩ ⟨Nat.le_of_ble_eq_true rfl, Nat.le_of_ble_eq_true rfl⟩ (fx_recv (g := 5) (i := 0) (ci := 1) (q := (RX0, TX0, 13)) hX hC (cin rfl) rfl rfl) hl.1 rfl (Nat.le_of_ble_eq_true rfl) ⟨Nat.zero_le _, Nat.zero_le _⟩ dX0_hold_22 (fun _ H locs hC => ?_)
        refine W.eq (g2 := F0 m 25 ls [.int (-1000001)]) rfl ?_
        have hs : s_hold d fd spot k = (((-1000001), d, p_find fd 0) : Int32 × Row × Row) := by first | grind [s_hold] | rfl
        exact fr_i hx hb hr hlocks hX hC () (congrArg (fun z => some (Value.int z)) (t3_1 hs)) ((congrArg (fun z => cct G (pg z kp as un to sc ((s_hold d fd spot k).2.2) tp sh) sp) (t3_2 hs)).trans (congrArg (fun z => cct G (pg d kp as un to sc z tp sh) sp) (t3_3 hs))).symm dX0_hold_25
set_option maxRecDepth 100000 in
theorem m_X0_holding {l : Launch} {G : Gc} {d kp as un to sc fd tp sh : Row} {sp : Nat → Option Nat}  : Cm l yX0_holding (ws_ yX0_holding cX0_holding 6 (some .int)) ({ frames := 0, cells := 0, slots := 0, locals := 0 }) (cF G) [.ref (G.ad 5 0)] (cct G (pg d kp as un to sc fd tp sh) sp) (fun _ : Unit => some (.int (p_holding d))) (fun _ => cct G (pg d kp as un to sc fd tp sh) sp) := by
  refine Cm.start (by decide) (Nat.le_of_ble_eq_true rfl) ?_
  intro p e s m below meth c hf hX hC ls hl
  obtain ⟨hx, hb, hr, hml, hown, hts, hlocks⟩ := hf
  have hl : lv_has ls 6 [(0, .ref (G.ad 5 0))] := hl
  have hown : s.vm.findClass "OwlEars" = some m.cls := hown
  refine lv_iconst (v := 0) hx hb dX0_holding_0 rfl ?_
  refine lv_istore_n (lv' := [(1, .int 0), (0, .ref (G.ad 5 0))]) hx hb dX0_holding_1 rfl hl (by decide) rfl (fun ls hl => ?_)
  refine lv_aload_n hx hb dX0_holding_2 rfl (lv_at hl 1 rfl) ?_
  refine fg_get (C := RX0) (T := TX0) (N := 13) (ci := 1) (g := 5) (i := 0) (v := .ref (G.ad 0 0)) hx hb hown hts hX hC in_X0 rfl (cin rfl) rfl 3 (by decide) q425 (fun _ h => h) rfl dX0_holding_3 ?_
  refine fg_getN (C := RX4) (T := TX4) (N := 9) (ci := 0) (g := 0) (i := 0) (v := .ref (G.ad 0 10)) hx hb hown hts hX hC in_X4 rfl (cin rfl) rfl 8 (by decide) (hX.2.2.1.F q263) (fun _ h => h) rfl dX0_holding_6 ?_
  refine lv_astore_n (lv' := [(2, .ref (G.ad 0 10)), (1, .int 0), (0, .ref (G.ad 5 0))]) hx hb dX0_holding_9 rfl hl (by decide) rfl (fun ls hl => ?_)
  refine lv_aload_n hx hb dX0_holding_10 rfl (lv_at hl 0 rfl) ?_
  refine fg_alen (g := 0) (i := 10) (t0 := 0) (v := 10) hx hb hX hC (cin rfl) rfl rfl rfl dX0_holding_11 ?_
  refine lv_istore_n (lv' := [(3, .int 10), (2, .ref (G.ad 0 10)), (1, .int 0), (0, .ref (G.ad 5 0))]) hx hb dX0_holding_12 rfl hl (by decide) rfl (fun ls hl => ?_)
  refine lv_iconst (v := 0) hx hb dX0_holding_13 rfl ?_
  refine lv_istore (lv' := [(4, .int 0), (3, .int 10), (2, .ref (G.ad 0 10)), (1, .int 0), (0, .ref (G.ad 5 0))]) hx hb dX0_holding_14 hl (by decide) rfl (fun ls hl => ?_)
  have L_1 : ∀ (k1 i1 : Nat), i1 + k1 = 10 → ∀ (H : Heap) (locs : List Loc), fC (cF G) (cct G (pg d kp as un to sc fd tp sh) sp) s.heap H locs → ∀ ls : Array Slot, lv_has ls 6 [(0, .ref (G.ad 5 0)), (1, .int (p_sum (fun k => b2i (¬ d (10 + k) = -1)) i1)), (2, .ref (G.ad 0 10)), (3, .int 10), (4, .int (nI i1))] → WG p l e ({ frames := 0, cells := 0, slots := 0, locals := 0 }) s m (([.ref (G.ad 5 0)] : List Value).toArray) below meth c H locs (cF G) (fun _ : Unit => some (.int (p_holding d))) (fun _ => cct G (pg d kp as un to sc fd tp sh) sp) (F0 m 16 ls []) := by
    intro k1
    induction k1 with
    | zero =>
      intro i1 hi1 H locs hC ls hl
      obtain rfl : i1 = 10 := by omega
      refine lv_iload hx hb dX0_holding_16 (lv_at hl 4 rfl) ?_
      refine lv_iload_n hx hb dX0_holding_18 rfl (lv_at hl 3 rfl) ?_
      refine fj_ge (tgt := 48) hx hb dX0_holding_19 (by decide) (fun _ => ?_) (fun z_2 => absurd z_2 (nlt_ix (n := 10)))
      refine lv_iload_n hx hb dX0_holding_48 rfl (lv_at hl 1 rfl) ?_
      exact fr_i hx hb hr hlocks hX hC () (congrArg (fun z => some (Value.int z)) (rfl)) rfl dX0_holding_49
    | succ k1 ih1 =>
      intro i1 hi1 H locs hC ls hl
      refine lv_iload hx hb dX0_holding_16 (lv_at hl 4 rfl) ?_
      refine lv_iload_n hx hb dX0_holding_18 rfl (lv_at hl 3 rfl) ?_
      refine fj_ge (tgt := 48) hx hb dX0_holding_19 (by decide) (fun z_3 => absurd (lt_ix (n := 10) (show i1 < 10 by omega)) z_3) (fun _ => ?_)
      refine lv_aload_n hx hb dX0_holding_22 rfl (lv_at hl 2 rfl) ?_
      refine lv_iload hx hb dX0_holding_23 (lv_at hl 4 rfl) ?_
      refine fg_iald (g := 0) (i := 10) (t0 := 0) (v := d (10 + i1)) hx hb hX hC (cin rfl) rfl rfl (vp_in_nI (show i1 < 10 by omega) (by decide)) (congrArg (fun z => d (10 + z)) (nI_clamp (by omega))) dX0_holding_25 ?_
      refine lv_istore (lv' := [(5, .int (d (10 + i1))), (0, .ref (G.ad 5 0)), (1, .int (p_sum (fun k => b2i (¬ d (10 + k) = -1)) i1)), (2, .ref (G.ad 0 10)), (3, .int 10), (4, .int (nI i1))]) hx hb dX0_holding_26 hl (by decide) rfl (fun ls hl => ?_)
      refine lv_iload_n hx hb dX0_holding_28 rfl (lv_at hl 2 rfl) ?_
      refine lv_iload hx hb dX0_holding_29 (lv_at hl 0 rfl) ?_
      refine lv_iconst (v := (-1)) hx hb dX0_holding_31 rfl ?_
      refine fw_joinb (C := ¬ ((d (10 + i1)) = (-1))) (pcj := 40) (ls := ls) (rest := [.int (p_sum (fun k => b2i (¬ d (10 + k) = -1)) i1)]) (fun jb ja => ?_) ?_
      · refine lv_icmp_ne (tgt := 39) hx hb dX0_holding_32 (by decide) (fun c_4 => ?_) (fun c_4 => ?_)
        · refine lv_iconst (v := 1) hx hb dX0_holding_39 rfl ?_
          exact jb c_4
        · refine lv_iconst (v := 0) hx hb dX0_holding_35 rfl ?_
          refine lv_goto (tgt := 40) hx hb dX0_holding_36 (by decide) ?_
          exact ja (fun z => z c_4)
      refine lv_iadd hx hb dX0_holding_40 ?_
      refine lv_istore_n (lv' := [(1, .int ((p_sum (fun k => b2i (¬ d (10 + k) = -1)) i1) + (b2i (¬ ((d (10 + i1)) = (-1)))))), (5, .int (d (10 + i1))), (0, .ref (G.ad 5 0)), (2, .ref (G.ad 0 10)), (3, .int 10), (4, .int (nI i1))]) hx hb dX0_holding_41 rfl hl (by decide) rfl (fun ls hl => ?_)
      refine lv_iinc (v := nI (i1 + 1)) (lv' := [(4, .int (nI (i1 + 1))), (1, .int ((p_sum (fun k => b2i (¬ d (10 + k) = -1)) i1) + (b2i (¬ ((d (10 + i1)) = (-1)))))), (5, .int (d (10 + i1))), (0, .ref (G.ad 5 0)), (2, .ref (G.ad 0 10)), (3, .int 10)]) hx hb dX0_holding_42 hl (k := 5) rfl (nI_1 _) (by decide) rfl (fun ls hl => ?_)
      refine lv_goto (tgt := 16) hx hb dX0_holding_45 (by decide) ?_
      exact ih1 (i1 + 1) (by omega) _ _ hC ls (lv_sub hl [3, 1, 4, 5, 0] rfl)
  exact L_1 10 0 (by omega) _ _ hC ls (lv_sub hl [4, 3, 2, 1, 0] rfl)
