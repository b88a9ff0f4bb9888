theorem hdS_X13_isSpot : yX13_isSpot.cls ≠ "java/lang/invoke/MethodHandle" ∧ yX13_isSpot.cls ≠ "java/lang/invoke/VarHandle" ∧ (parseMethodDescriptor yX13_isSpot.desc).map (fun d => d.parameters.length) = some 1 := by decide +kernel
theorem hdS_X13_above : yX13_above.cls ≠ "java/lang/invoke/MethodHandle" ∧ yX13_above.cls ≠ "java/lang/invoke/VarHandle" ∧ (parseMethodDescriptor yX13_above.desc).map (fun d => d.parameters.length) = some 1 := by decide +kernel
theorem hdS_X13_isUnder : yX13_isUnder.cls ≠ "java/lang/invoke/MethodHandle" ∧ yX13_isUnder.cls ≠ "java/lang/invoke/VarHandle" ∧ (parseMethodDescriptor yX13_isUnder.desc).map (fun d => d.parameters.length) = some 2 := by decide +kernel
def m_undo (w fd kp sc : Row) : Int32 × Row × Row := if sc 0 = 0 then (-1000004, w, p_find fd 3) else (kp 0, kp, fd)
set_option maxRecDepth 100000 in
theorem m_X13_seed {l : Launch} {G : Gm} {d kp as bf sc fd tp it ws sz nu mv : Row} (v : Int32) : Cm l yX13_seed (ws_ yX13_seed cX13_seed 2 (some .int)) ({ frames := 1, cells := 0, slots := 0, locals := 23 }) (mF G) [.ref (G.ad 0 0), .int v] (mct G (mpg d kp as bf sc fd tp it ws sz nu mv)) (fun _ : Unit => some (.int (d 2))) (fun _ => mct G (mpg (upd d 2 v) kp as bf sc fd tp it ws sz nu mv)) := by
  refine Cm.start (by decide) (Nat.le_of_ble_eq_true rfl) ?_
  intro p e s m below meth c hf hX hC ls hl
  obtain ⟨hx, hb, hr, hml, hown, hts, hlocks⟩ := hf
  have hl : lv_has ls 2 [(0, .ref (G.ad 0 0)), (1, .int v)] := hl
  have hown : s.vm.findClass "OwlEarsModel" = some m.cls := hown
  refine lv_aload_n hx hb dX13_seed_0 rfl (lv_at hl 0 rfl) ?_
  refine lv_iconst (v := 2) hx hb dX13_seed_1 rfl ?_
  refine lv_iload_n hx hb dX13_seed_2 rfl (lv_at hl 1 rfl) ?_
  refine fc_V (As := [.int 2, .int v]) (rest := []) hx hb hml hown hts hX hC (m_X13_become 2 v 2 rfl (vin_b rfl)) (lw_V q1399 q1401 qs55 q124 q1402) hdV_X13_become ⟨rfl, rfl⟩ ⟨Nat.le_of_ble_eq_true rfl, Nat.le_of_ble_eq_true rfl⟩ (fx_recv (g := 0) (i := 0) (ci := 0) (q := (RX13, TX13, 24)) hX hC (min_ (by decide)) rfl rfl) hl.1 rfl (Nat.le_of_ble_eq_true rfl) ⟨Nat.zero_le _, Nat.zero_le _⟩ dX13_seed_3 (fun _ H locs hC => ?_)
  refine W.eq (g2 := F0 m 6 ls [.int (d 2)]) rfl ?_
  exact fr_i hx hb hr hlocks hX hC () rfl rfl dX13_seed_6
set_option maxRecDepth 100000 in
theorem m_X13_wipe {l : Launch} {G : Gm} {d kp as bf sc fd tp it ws sz nu mv : Row}  : Cm l yX13_wipe (ws_ yX13_wipe cX13_wipe 2 (some .int)) ({ frames := 0, cells := 0, slots := 0, locals := 0 }) (mF G) [.ref (G.ad 0 0)] (mct G (mpg d kp as bf sc fd tp it ws sz nu mv)) (fun _ : Unit => some (.int (sc 3))) (fun _ => mct G (mpg d kp as bf (upd sc 3 0) fd tp it ws sz nu mv)) := by
  refine Cm.start (by decide) (Nat.le_of_ble_eq_true rfl) ?_
  intro p e s m below meth c hf hX hC ls hl
  obtain ⟨hx, hb, hr, hml, hown, hts, hlocks⟩ := hf
  have hl : lv_has ls 2 [(0, .ref (G.ad 0 0))] := hl
  have hown : s.vm.findClass "OwlEarsModel" = some m.cls := hown
  refine lv_aload_n hx hb dX13_wipe_0 rfl (lv_at hl 0 rfl) ?_
  refine fg_get (C := RX13) (T := TX13) (N := 24) (ci := 0) (g := 0) (i := 0) (v := .int (sc 3)) hx hb hown hts hX hC in_X13 rfl (min_ (by decide)) rfl 9 (by decide) q1319 (fun _ h => h) rfl dX13_wipe_1 ?_
  refine lv_istore_n (lv' := [(1, .int (sc 3)), (0, .ref (G.ad 0 0))]) hx hb dX13_wipe_4 rfl hl (by decide) rfl (fun ls hl => ?_)
  refine lv_aload_n hx hb dX13_wipe_5 rfl (lv_at hl 1 rfl) ?_
  refine lv_iconst (v := 0) hx hb dX13_wipe_6 rfl ?_
  refine fg_put (C := RX13) (T := TX13) (N := 24) (ci := 0) (g := 0) (i := 0) hx hb hown hts hX hC in_X13 tyX13 tyX13_ok nmX13 rfl (min_ (by decide)) rfl 9 (by decide) q1319 (fun _ h => h) rfl rfl rfl (Nat.le_of_ble_eq_true rfl) (mct G (mpg d kp as bf (upd sc 3 0) fd tp it ws sz nu mv)) ms0_3 dX13_wipe_7 (fun H locs hC => ?_)
  refine lv_iload_n hx hb dX13_wipe_10 rfl (lv_at hl 0 rfl) ?_
  exact fr_i hx hb hr hlocks hX hC () rfl rfl dX13_wipe_11
set_option maxRecDepth 100000 in
theorem m_X13_tear {l : Launch} {G : Gm} {d kp as bf sc fd tp it ws sz nu mv : Row}  : Cm l yX13_tear (ws_ yX13_tear cX13_tear 2 (some .int)) ({ frames := 0, cells := 0, slots := 0, locals := 0 }) (mF G) [.ref (G.ad 0 0)] (mct G (mpg d kp as bf sc fd tp it ws sz nu mv)) (fun _ : Unit => some (.int (if sc 0 = 0 then 0 else 1))) (fun _ => mct G (mpg d kp as bf (upd sc 0 0) fd tp it ws sz nu mv)) := by
  refine Cm.start (by decide) (Nat.le_of_ble_eq_true rfl) ?_
  intro p e s m below meth c hf hX hC ls hl
  obtain ⟨hx, hb, hr, hml, hown, hts, hlocks⟩ := hf
  have hl : lv_has ls 2 [(0, .ref (G.ad 0 0))] := hl
  have hown : s.vm.findClass "OwlEarsModel" = some m.cls := hown
  refine lv_aload_n hx hb dX13_tear_0 rfl (lv_at hl 0 rfl) ?_
  refine fg_get (C := RX13) (T := TX13) (N := 24) (ci := 0) (g := 0) (i := 0) (v := .int (sc 0)) hx hb hown hts hX hC in_X13 rfl (min_ (by decide)) rfl 4 (by decide) q1314 (fun _ h => h) rfl dX13_tear_1 ?_
  refine fw_joinb (C := ¬ ((sc 0) = 0)) (pcj := 12) (ls := ls) (rest := []) (fun jb ja => ?_) ?_
  · refine lv_if_eq (tgt := 11) hx hb dX13_tear_4 (by decide) (fun c_1 => ?_) (fun c_1 => ?_)
    · refine lv_iconst (v := 0) hx hb dX13_tear_11 rfl ?_
      exact ja (fun z => z c_1)
    · refine lv_iconst (v := 1) hx hb dX13_tear_7 rfl ?_
      refine lv_goto (tgt := 12) hx hb dX13_tear_8 (by decide) ?_
      exact jb c_1
  refine lv_istore_n (lv' := [(1, .int (b2i (¬ ((sc 0) = 0)))), (0, .ref (G.ad 0 0))]) hx hb dX13_tear_12 rfl hl (by decide) rfl (fun ls hl => ?_)
  refine lv_aload_n hx hb dX13_tear_13 rfl (lv_at hl 1 rfl) ?_
  refine lv_iconst (v := 0) hx hb dX13_tear_14 rfl ?_
  refine fg_put (C := RX13) (T := TX13) (N := 24) (ci := 0) (g := 0) (i := 0) hx hb hown hts hX hC in_X13 tyX13 tyX13_ok nmX13 rfl (min_ (by decide)) rfl 4 (by decide) q1314 (fun _ h => h) rfl rfl rfl (Nat.le_of_ble_eq_true rfl) (mct G (mpg d kp as bf (upd sc 0 0) fd tp it ws sz nu mv)) ms0_0 dX13_tear_15 (fun H locs hC => ?_)
  refine lv_iload_n hx hb dX13_tear_18 rfl (lv_at hl 0 rfl) ?_
  exact fr_i hx hb hr hlocks hX hC () (congrArg (fun z => some (Value.int z)) (by grind [b2i])) rfl dX13_tear_19
set_option maxRecDepth 100000 in
theorem m_X13_image {l : Launch} {G : Gm} {d kp as bf sc fd tp it ws sz nu mv : Row}  : Cm l yX13_image (ws_ yX13_image cX13_image 1 (some .int)) ({ frames := 1, cells := 0, slots := 0, locals := 22 }) (mF G) [.ref (G.ad 0 0)] (mct G (mpg d kp as bf sc fd tp it ws sz nu mv)) (fun _ : Unit => some (.int 1)) (fun _ => mct G (mpg d d as bf (upd sc 0 1) fd tp it ws sz nu mv)) := by
  refine Cm.start (by decide) (Nat.le_of_ble_eq_true rfl) ?_
  intro p e s m below meth c hf hX hC ls hl
  obtain ⟨hx, hb, hr, hml, hown, hts, hlocks⟩ := hf
  have hl : lv_has ls 1 [(0, .ref (G.ad 0 0))] := hl
  have hown : s.vm.findClass "OwlEarsModel" = some m.cls := hown
  refine lv_aload_n hx hb dX13_image_0 rfl (lv_at hl 0 rfl) ?_
  refine fg_get (C := RX13) (T := TX13) (N := 24) (ci := 0) (g := 0) (i := 0) (v := .ref (G.ad 0 1)) hx hb hown hts hX hC in_X13 rfl (min_ (by decide)) rfl 0 (by decide) q1310 (fun _ h => h) rfl dX13_image_1 ?_
  refine lv_aload_n hx hb dX13_image_4 rfl (lv_at hl 0 rfl) ?_
  refine fg_get (C := RX13) (T := TX13) (N := 24) (ci := 0) (g := 0) (i := 0) (v := .ref (G.ad 0 2)) hx hb hown hts hX hC in_X13 rfl (min_ (by decide)) rfl 1 (by decide) q1311 (fun _ h => h) rfl dX13_image_5 ?_
  refine fc_S (As := [.ref (G.ad 0 1), .ref (G.ad 0 2)]) (rest := []) hx hb hml hown hts hX hC (m_X13_copyRow (g1 := 0) (i1 := 1) (g2 := 0) (i2 := 2) (t0 := 0) (ctn := mct G (mpg d d as bf sc fd tp it ws sz nu mv)) (min_ (by decide)) rfl (min_ (by decide)) rfl rfl (by decide) (mu mp2 (fun _ _ h => h))) (lw_S q1491 q1492 q124 q1493) hdS_X13_copyRow ⟨rfl, rfl⟩ ⟨Nat.le_of_ble_eq_true rfl, Nat.le_of_ble_eq_true rfl⟩ hl.1 rfl (Nat.le_of_ble_eq_true rfl) ⟨Nat.zero_le _, Nat.zero_le _⟩ dX13_image_8 (fun _ H locs hC => ?_)
  refine W.eq (g2 := F0 m 11 ls []) rfl ?_
  refine lv_aload_n hx hb dX13_image_11 rfl (lv_at hl 0 rfl) ?_
  refine lv_iconst (v := 1) hx hb dX13_image_12 rfl ?_
  refine fg_put (C := RX13) (T := TX13) (N := 24) (ci := 0) (g := 0) (i := 0) hx hb hown hts hX hC in_X13 tyX13 tyX13_ok nmX13 rfl (min_ (by decide)) rfl 4 (by decide) q1314 (fun _ h => h) rfl rfl rfl (Nat.le_of_ble_eq_true rfl) (mct G (mpg d d as bf (upd sc 0 1) fd tp it ws sz nu mv)) ms0_0 dX13_image_13 (fun H locs hC => ?_)
  refine lv_iconst (v := 1) hx hb dX13_image_16 rfl ?_
  exact fr_i hx hb hr hlocks hX hC () rfl rfl dX13_image_17
set_option maxRecDepth 100000 in
theorem m_X13_undo {l : Launch} {G : Gm} {d kp as bf sc fd tp it ws sz nu mv : Row}  : Cm l yX13_undo (ws_ yX13_undo cX13_undo 1 (some .int)) ({ frames := 1, cells := 0, slots := 0, locals := 22 }) (mF G) [.ref (G.ad 0 0)] (mct G (mpg d kp as bf sc fd tp it ws sz nu mv)) (fun _ : Unit => some (.int ((m_undo d fd kp sc).1))) (fun _ => mct G (mpg ((m_undo d fd kp sc).2.1) kp as bf sc ((m_undo d fd kp sc).2.2) tp it ws sz nu mv)) := by
  refine Cm.start (by decide) (Nat.le_of_ble_eq_true rfl) ?_
  intro p e s m below meth c hf hX hC ls hl
  obtain ⟨hx, hb, hr, hml, hown, hts, hlocks⟩ := hf
  have hl : lv_has ls 1 [(0, .ref (G.ad 0 0))] := hl
  have hown : s.vm.findClass "OwlEarsModel" = some m.cls := hown
  refine lv_aload_n hx hb dX13_undo_0 rfl (lv_at hl 0 rfl) ?_
  refine fg_get (C := RX13) (T := TX13) (N := 24) (ci := 0) (g := 0) (i := 0) (v := .int (sc 0)) hx hb hown hts hX hC in_X13 rfl (min_ (by decide)) rfl 4 (by decide) q1314 (fun _ h => h) rfl dX13_undo_1 ?_
  refine lv_if_ne (tgt := 14) hx hb dX13_undo_4 (by decide) (fun c_1 => ?_) (fun c_1 => ?_)
  · refine lv_aload_n hx hb dX13_undo_14 rfl (lv_at hl 0 rfl) ?_
    refine fg_get (C := RX13) (T := TX13) (N := 24) (ci := 0) (g := 0) (i := 0) (v := .ref (G.ad 0 2)) hx hb hown hts hX hC in_X13 rfl (min_ (by decide)) rfl 1 (by decide) q1311 (fun _ h => h) rfl dX13_undo_15 ?_
    refine lv_aload_n hx hb dX13_undo_18 rfl (lv_at hl 0 rfl) ?_
    refine fg_get (C := RX13) (T := TX13) (N := 24) (ci := 0) (g := 0) (i := 0) (v := .ref (G.ad 0 1)) hx hb hown hts hX hC in_X13 rfl (min_ (by decide)) rfl 0 (by decide) q1310 (fun _ h => h) rfl dX13_undo_19 ?_
    refine fc_S (As := [.ref (G.ad 0 2), .ref (G.ad 0 1)]) (rest := []) hx hb hml hown hts hX hC (m_X13_copyRow (g1 := 0) (i1 := 2) (g2 := 0) (i2 := 1) (t0 := 0) (ctn := mct G (mpg kp kp as bf sc fd tp it ws sz nu mv)) (min_ (by decide)) rfl (min_ (by decide)) rfl rfl (by decide) (mu mp1 (fun _ _ h => h))) (lw_S q1491 q1492 q124 q1493) hdS_X13_copyRow ⟨rfl, rfl⟩ ⟨Nat.le_of_ble_eq_true rfl, Nat.le_of_ble_eq_true rfl⟩ hl.1 rfl (Nat.le_of_ble_eq_true rfl) ⟨Nat.zero_le _, Nat.zero_le _⟩ dX13_undo_22 (fun _ H locs hC => ?_)
    refine W.eq (g2 := F0 m 25 ls []) rfl ?_
    refine lv_aload_n hx hb dX13_undo_25 rfl (lv_at hl 0 rfl) ?_
    refine fg_get (C := RX13) (T := TX13) (N := 24) (ci := 0) (g := 0) (i := 0) (v := .ref (G.ad 0 1)) hx hb hown hts hX hC in_X13 rfl (min_ (by decide)) rfl 0 (by decide) q1310 (fun _ h => h) rfl dX13_undo_26 ?_
    refine lv_iconst (v := 0) hx hb dX13_undo_29 rfl ?_
    refine fg_iald (g := 0) (i := 1) (t0 := 0) (v := kp 0) hx hb hX hC (min_ (by decide)) rfl rfl (vin_b rfl) rfl dX13_undo_30 ?_
    have hs : m_undo d fd kp sc = ((kp 0, kp, fd) : Int32 × Row × Row) := by rw [m_undo, if_neg c_1]
    exact fr_i hx hb hr hlocks hX hC () (congrArg (fun z => some (Value.int z)) (t3_1 hs)) ((congrArg (fun z => mct G (mpg z kp as bf sc ((m_undo d fd kp sc).2.2) tp it ws sz nu mv)) (t3_2 hs)).trans (congrArg (fun z => mct G (mpg kp kp as bf sc z tp it ws sz nu mv)) (t3_3 hs))).symm dX13_undo_31
  · refine lv_aload_n hx hb dX13_undo_7 rfl (lv_at hl 0 rfl) ?_
    refine lv_ldc (v := (-1000004)) hx hb hown (hts _ q1570) dX13_undo_8 ?_
    refine fc_V (As := [.int (-1000004)]) (rest := []) hx hb hml hown hts hX hC (m_X13_finding 3 (vin_b rfl)) (lw_V q1404 q1406 qs56 q124 q1407) hdV_X13_finding ⟨rfl, rfl⟩ ⟨Nat.le_of_ble_eq_true rfl, Nat.le_of_ble_eq_true rfl⟩ (fx_recv (g := 0) (i := 0) (ci := 0) (q := (RX13, TX13, 24)) hX hC (min_ (by decide)) rfl rfl) hl.1 rfl (Nat.le_of_ble_eq_true rfl) ⟨Nat.zero_le _, Nat.zero_le _⟩ dX13_undo_10 (fun _ H locs hC => ?_)
    refine W.eq (g2 := F0 m 13 ls [.int (-1000004)]) rfl ?_
    have hs : m_undo d fd kp sc = (((-1000004), d, p_find fd 3) : Int32 × Row × Row) := by rw [m_undo, if_pos c_1]
    exact fr_i hx hb hr hlocks hX hC () (congrArg (fun z => some (Value.int z)) (t3_1 hs)) ((congrArg (fun z => mct G (mpg z kp as bf sc ((m_undo d fd kp sc).2.2) tp it ws sz nu mv)) (t3_2 hs)).trans (congrArg (fun z => mct G (mpg d kp as bf sc z tp it ws sz nu mv)) (t3_3 hs))).symm dX13_undo_13
set_option maxRecDepth 100000 in
theorem m_X13_hold {l : Launch} {G : Gm} {d kp as bf sc fd tp it ws sz nu mv : Row} (spot k : Int32) : Cm l yX13_hold (ws_ yX13_hold cX13_hold 3 (some .int)) ({ frames := 2, cells := 0, slots := 0, locals := 43 }) (mF G) [.ref (G.ad 0 0), .int spot, .int k] (mct G (mpg d kp as bf sc fd tp it ws sz nu mv)) (fun _ : Unit => some (.int ((s_hold d fd spot k).1))) (fun _ => mct G (mpg ((s_hold d fd spot k).2.1) kp as bf sc ((s_hold d fd spot k).2.2) tp it ws sz nu mv)) := by
  refine Cm.start (by decide) (Nat.le_of_ble_eq_true rfl) ?_
  intro p e s m below meth c hf hX hC ls hl
  obtain ⟨hx, hb, hr, hml, hown, hts, hlocks⟩ := hf
  have hl : lv_has ls 3 [(0, .ref (G.ad 0 0)), (1, .int spot), (2, .int k)] := hl
  have hown : s.vm.findClass "OwlEarsModel" = some m.cls := hown
  refine lv_iload_n hx hb dX13_hold_0 rfl (lv_at hl 1 rfl) ?_
  refine fc_S (As := [.int spot]) (rest := []) hx hb hml hown hts hX hC (m_X13_isSpot spot) (lw_S q1816 q1817 q124 q1818) hdS_X13_isSpot ⟨rfl, rfl⟩ ⟨Nat.le_of_ble_eq_true rfl, Nat.le_of_ble_eq_true rfl⟩ hl.1 rfl (Nat.le_of_ble_eq_true rfl) ⟨Nat.zero_le _, Nat.zero_le _⟩ dX13_hold_1 (fun _ H locs hC => ?_)
  refine W.eq (g2 := F0 m 4 ls [.int (b2i (p_in spot 0 9))]) rfl ?_
  refine fb_eq (tgt := 20) hx hb dX13_hold_4 (by decide) (fun c_2 => ?_) (fun c_2 => ?_)
  · refine lv_aload_n hx hb dX13_hold_20 rfl (lv_at hl 0 rfl) ?_
    refine lv_ldc (v := (-1000001)) hx hb hown (hts _ q1403) dX13_hold_21 ?_
    refine fc_V (As := [.int (-1000001)]) (rest := []) hx hb hml hown hts hX hC (m_X13_finding 0 (vin_b rfl)) (lw_V q1404 q1406 qs56 q124 q1407) hdV_X13_finding ⟨rfl, rfl⟩ ⟨Nat.le_of_ble_eq_true rfl, Nat.le_of_ble_eq_true rfl⟩ (fx_recv (g := 0) (i := 0) (ci := 0) (q := (RX13, TX13, 24)) hX hC (min_ (by decide)) rfl rfl) hl.1 rfl (Nat.le_of_ble_eq_true rfl) ⟨Nat.zero_le _, Nat.zero_le _⟩ dX13_hold_23 (fun _ H locs hC => ?_)
    refine W.eq (g2 := F0 m 26 ls [.int (-1000001)]) rfl ?_
    have hs : s_hold d fd spot k = (((-1000001), d, p_find fd 0) : Int32 × Row × Row) := by grind [s_hold]
    exact fr_i hx hb hr hlocks hX hC () (congrArg (fun z => some (Value.int z)) (t3_1 hs)) ((congrArg (fun z => mct G (mpg z kp as bf sc ((s_hold d fd spot k).2.2) tp it ws sz nu mv)) (t3_2 hs)).trans (congrArg (fun z => mct G (mpg d kp as bf sc z tp it ws sz nu mv)) (t3_3 hs))).symm dX13_hold_26
  · refine lv_iload_n hx hb dX13_hold_7 rfl (lv_at hl 2 rfl) ?_
    refine lv_iconst (v := (-1)) hx hb dX13_hold_8 rfl ?_
    refine lv_icmp_eq (tgt := 27) hx hb dX13_hold_9 (by decide) (fun c_3 => ?_) (fun c_3 => ?_)
    · refine lv_aload_n hx hb dX13_hold_27 rfl (lv_at hl 0 rfl) ?_
      refine fg_get (C := RX13) (T := TX13) (N := 24) (ci := 0) (g := 0) (i := 0) (v := .ref (G.ad 0 1)) hx hb hown hts hX hC in_X13 rfl (min_ (by decide)) rfl 0 (by decide) q1310 (fun _ h => h) rfl dX13_hold_28 ?_
      refine lv_bipush (v := 10) hx hb dX13_hold_31 rfl ?_
      refine lv_iload_n hx hb dX13_hold_33 rfl (lv_at hl 1 rfl) ?_
      refine lv_iadd hx hb dX13_hold_34 ?_
      refine lv_iload_n hx hb dX13_hold_35 rfl (lv_at hl 2 rfl) ?_
      refine fg_iast (g := 0) (i := 1) (t0 := 0) hx hb hX hC (min_ (by decide)) rfl rfl (vinp 10 (vin_of c_2 10 (by decide)) (by decide) (by decide)) (mct G (mpg (upd d (10 + ix spot) k) kp as bf sc fd tp it ws sz nu mv)) (mu mp1 (mst (ixp 10 (vin_of c_2 10 (by decide)) (by decide)))) dX13_hold_36 (fun H locs hC => ?_)
      refine lv_iconst (v := 1) hx hb dX13_hold_37 rfl ?_
      have hs : s_hold d fd spot k = ((1, upd d (10 + ix spot) k, fd) : Int32 × Row × Row) := by grind [s_hold]
      exact fr_i hx hb hr hlocks hX hC () (congrArg (fun z => some (Value.int z)) (t3_1 hs)) ((congrArg (fun z => mct G (mpg z kp as bf sc ((s_hold d fd spot k).2.2) tp it ws sz nu mv)) (t3_2 hs)).trans (congrArg (fun z => mct G (mpg (upd d (10 + ix spot) k) kp as bf sc z tp it ws sz nu mv)) (t3_3 hs))).symm dX13_hold_38
    · refine lv_aload_n hx hb dX13_hold_12 rfl (lv_at hl 0 rfl) ?_
      refine lv_iload_n hx hb dX13_hold_13 rfl (lv_at hl 2 rfl) ?_
      refine fc_V (As := [.int k]) (rest := []) hx hb hml hown hts hX hC (m_X13_isStrike k) (lw_V q1467 q1469 qs62 q124 q1470) hdV_X13_isStrike ⟨rfl, rfl⟩ ⟨Nat.le_of_ble_eq_true rfl, Nat.le_of_ble_eq_true rfl⟩ (fx_recv (g := 0) (i := 0) (ci := 0) (q := (RX13, TX13, 24)) hX hC (min_ (by decide)) rfl rfl) hl.1 rfl (Nat.le_of_ble_eq_true rfl) ⟨Nat.zero_le _, Nat.zero_le _⟩ dX13_hold_14 (fun _ H locs hC => ?_)
      refine W.eq (g2 := F0 m 17 ls [.int (b2i (p_in k 0 (d 1 - 1)))]) rfl ?_
      refine fb_ne (tgt := 27) hx hb dX13_hold_17 (by decide) (fun c_5 => ?_) (fun c_5 => ?_)
      · refine lv_aload_n hx hb dX13_hold_27 rfl (lv_at hl 0 rfl) ?_
        refine fg_get (C := RX13) (T := TX13) (N := 24) (ci := 0) (g := 0) (i := 0) (v := .ref (G.ad 0 1)) hx hb hown hts hX hC in_X13 rfl (min_ (by decide)) rfl 0 (by decide) q1310 (fun _ h => h) rfl dX13_hold_28 ?_
        refine lv_bipush (v := 10) hx hb dX13_hold_31 rfl ?_
        refine lv_iload_n hx hb dX13_hold_33 rfl (lv_at hl 1 rfl) ?_
        refine lv_iadd hx hb dX13_hold_34 ?_
        refine lv_iload_n hx hb dX13_hold_35 rfl (lv_at hl 2 rfl) ?_
        refine fg_iast (g := 0) (i := 1) (t0 := 0) hx hb hX hC (min_ (by decide)) rfl rfl (vinp 10 (vin_of c_2 10 (by decide)) (by decide) (by decide)) (mct G (mpg (upd d (10 + ix spot) k) kp as bf sc fd tp it ws sz nu mv)) (mu mp1 (mst (ixp 10 (vin_of c_2 10 (by decide)) (by decide)))) dX13_hold_36 (fun H locs hC => ?_)
        refine lv_iconst (v := 1) hx hb dX13_hold_37 rfl ?_
        have hs : s_hold d fd spot k = ((1, upd d (10 + ix spot) k, fd) : Int32 × Row × Row) := by grind [s_hold]
        exact fr_i hx hb hr hlocks hX hC () (congrArg (fun z => some (Value.int z)) (t3_1 hs)) ((congrArg (fun z => mct G (mpg z kp as bf sc ((s_hold d fd spot k).2.2) tp it ws sz nu mv)) (t3_2 hs)).trans (congrArg (fun z => mct G (mpg (upd d (10 + ix spot) k) kp as bf sc z tp it ws sz nu mv)) (t3_3 hs))).symm dX13_hold_38
      · refine lv_aload_n hx hb dX13_hold_20 rfl (lv_at hl 0 rfl) ?_
        refine lv_ldc (v := (-1000001)) hx hb hown (hts _ q1403) dX13_hold_21 ?_
        refine fc_V (As := [.int (-1000001)]) (rest := []) hx hb hml hown hts hX hC (m_X13_finding 0 (vin_b rfl)) (lw_V q1404 q1406 qs56 q124 q1407) hdV_X13_finding ⟨rfl, rfl⟩ ⟨Nat.le_of_ble_eq_true rfl, Nat.le_of_ble_eq_true rfl⟩ (fx_recv (g := 0) (i := 0) (ci := 0) (q := (RX13, TX13, 24)) hX hC (min_ (by decide)) rfl rfl) hl.1 rfl (Nat.le_of_ble_eq_true rfl) ⟨Nat.zero_le _, Nat.zero_le _⟩ dX13_hold_23 (fun _ H locs hC => ?_)
        refine W.eq (g2 := F0 m 26 ls [.int (-1000001)]) rfl ?_
        have hs : s_hold d fd spot k = (((-1000001), d, p_find fd 0) : Int32 × Row × Row) := by grind [s_hold]
        exact fr_i hx hb hr hlocks hX hC () (congrArg (fun z => some (Value.int z)) (t3_1 hs)) ((congrArg (fun z => mct G (mpg z kp as bf sc ((s_hold d fd spot k).2.2) tp it ws sz nu mv)) (t3_2 hs)).trans (congrArg (fun z => mct G (mpg d kp as bf sc z tp it ws sz nu mv)) (t3_3 hs))).symm dX13_hold_26
set_option maxRecDepth 100000 in
theorem m_X13_above {l : Launch} {F : Fam} {ct : Ct} (k0 : Int32) : Cm l yX13_above (ws_ yX13_above cX13_above 1 (some .int)) ({ frames := 0, cells := 0, slots := 0, locals := 0 }) F [.int k0] (ct) (fun _ : Unit => some (.int (p_up k0))) (fun _ => ct) := by
  refine Cm.start (by decide) (Nat.le_of_ble_eq_true rfl) ?_
  intro p e s m below meth c hf hX hC ls hl
  obtain ⟨hx, hb, hr, hml, hown, hts, hlocks⟩ := hf
  have hl : lv_has ls 1 [(0, .int k0)] := hl
  have hown : s.vm.findClass "OwlEarsModel" = some m.cls := hown
  refine lv_iload_n hx hb dX13_above_0 rfl (lv_at hl 0 rfl) ?_
  refine lv_if_ne (tgt := 8) hx hb dX13_above_1 (by decide) (fun c_1 => ?_) (fun c_1 => ?_)
  · refine lv_iload_n hx hb dX13_above_8 rfl (lv_at hl 0 rfl) ?_
    refine lv_iconst (v := 3) hx hb dX13_above_9 rfl ?_
    refine lv_icmp_ne (tgt := 17) hx hb dX13_above_10 (by decide) (fun c_2 => ?_) (fun c_2 => ?_)
    · refine lv_iload_n hx hb dX13_above_17 rfl (lv_at hl 0 rfl) ?_
      refine lv_iconst (v := 4) hx hb dX13_above_18 rfl ?_
      refine lv_icmp_ne (tgt := 26) hx hb dX13_above_19 (by decide) (fun c_3 => ?_) (fun c_3 => ?_)
      · refine lv_iload_n hx hb dX13_above_26 rfl (lv_at hl 0 rfl) ?_
        refine lv_bipush (v := 6) hx hb dX13_above_27 rfl ?_
        refine lv_icmp_ne (tgt := 36) hx hb dX13_above_29 (by decide) (fun c_4 => ?_) (fun c_4 => ?_)
        · refine lv_iconst (v := 0) hx hb dX13_above_36 rfl ?_
          exact fr_i hx hb hr hlocks hX hC () (congrArg (fun z => some (Value.int z)) (by first | rfl | (simp [p_up, c_1, c_2, c_3, c_4]))) rfl dX13_above_37
        · refine lv_iconst (v := 1) hx hb dX13_above_32 rfl ?_
          refine lv_goto (tgt := 37) hx hb dX13_above_33 (by decide) ?_
          exact fr_i hx hb hr hlocks hX hC () (congrArg (fun z => some (Value.int z)) (by first | rfl | (simp [p_up, c_1, c_2, c_3, c_4]))) rfl dX13_above_37
      · refine lv_iconst (v := 3) hx hb dX13_above_22 rfl ?_
        refine lv_goto (tgt := 37) hx hb dX13_above_23 (by decide) ?_
        exact fr_i hx hb hr hlocks hX hC () (congrArg (fun z => some (Value.int z)) (by first | rfl | (simp [p_up, c_1, c_2, c_3]))) rfl dX13_above_37
    · refine lv_iconst (v := 2) hx hb dX13_above_13 rfl ?_
      refine lv_goto (tgt := 37) hx hb dX13_above_14 (by decide) ?_
      exact fr_i hx hb hr hlocks hX hC () (congrArg (fun z => some (Value.int z)) (by first | rfl | (simp [p_up, c_1, c_2]))) rfl dX13_above_37
  · refine lv_iconst (v := (-1)) hx hb dX13_above_4 rfl ?_
    refine lv_goto (tgt := 37) hx hb dX13_above_5 (by decide) ?_
    exact fr_i hx hb hr hlocks hX hC () (congrArg (fun z => some (Value.int z)) (by first | rfl | (simp [p_up, c_1]))) rfl dX13_above_37
set_option maxRecDepth 100000 in
theorem m_X13_isUnder {l : Launch} {F : Fam} {ct : Ct} (k0 o : Int32) (hk0 : vp_in k0 7) : Cm l yX13_isUnder (ws_ yX13_isUnder cX13_isUnder 3 (some .boolean)) ({ frames := 1, cells := 0, slots := 0, locals := 20 }) F [.int k0, .int o] (ct) (fun _ : Unit => some (.int (b2i (p_under k0 o)))) (fun _ => ct) := by
  refine Cm.start (by decide) (Nat.le_of_ble_eq_true rfl) ?_
  intro p e s m below meth c hf hX hC ls hl
  obtain ⟨hx, hb, hr, hml, hown, hts, hlocks⟩ := hf
  have hl : lv_has ls 3 [(0, .int k0), (1, .int o)] := hl
  have hown : s.vm.findClass "OwlEarsModel" = some m.cls := hown
  rcases kind7 hk0 with rfl | rfl | rfl | rfl | rfl | rfl | rfl
  · refine lv_iload_n hx hb dX13_isUnder_0 rfl (lv_at hl 0 rfl) ?_
    refine lv_istore_n (lv' := [(2, .int 0), (0, .int 0), (1, .int o)]) hx hb dX13_isUnder_1 rfl hl (by decide) rfl (fun ls hl => ?_)
    refine lv_iload_n hx hb dX13_isUnder_2 rfl (lv_at hl 0 rfl) ?_
    refine lv_if_lt (tgt := 19) hx hb dX13_isUnder_3 (by decide) (fun z_1 => absurd z_1 (by decide)) (fun _ => ?_)
    refine lv_iload_n hx hb dX13_isUnder_6 rfl (lv_at hl 0 rfl) ?_
    refine lv_iload_n hx hb dX13_isUnder_7 rfl (lv_at hl 2 rfl) ?_
    refine lv_icmp_eq (tgt := 19) hx hb dX13_isUnder_8 (by decide) (fun c_2 => ?_) (fun c_2 => ?_)
    · refine lv_iload_n hx hb dX13_isUnder_19 rfl (lv_at hl 0 rfl) ?_
      refine lv_if_lt (tgt := 27) hx hb dX13_isUnder_20 (by decide) (fun z_3 => absurd z_3 (by decide)) (fun _ => ?_)
      refine lv_iconst (v := 1) hx hb dX13_isUnder_23 rfl ?_
      refine lv_goto (tgt := 28) hx hb dX13_isUnder_24 (by decide) ?_
      exact fr_z hx hb hr rfl hlocks hX hC () (congrArg (fun z => some (Value.int z)) (b2i_t (by subst c_2; decide))) rfl dX13_isUnder_28
    · refine lv_iload_n hx hb dX13_isUnder_11 rfl (lv_at hl 0 rfl) ?_
      refine fc_S (As := [.int 0]) (rest := []) hx hb hml hown hts hX hC (m_X13_above 0) (lw_S q1826 q1827 q124 q1828) hdS_X13_above ⟨rfl, rfl⟩ ⟨Nat.le_of_ble_eq_true rfl, Nat.le_of_ble_eq_true rfl⟩ hl.1 rfl (Nat.le_of_ble_eq_true rfl) ⟨Nat.zero_le _, Nat.zero_le _⟩ dX13_isUnder_12 (fun _ H locs hC => ?_)
      refine W.eq (g2 := F0 m 15 ls [.int (-1)]) rfl ?_
      refine lv_istore_n (lv' := [(2, .int (-1)), (0, .int 0), (1, .int o)]) hx hb dX13_isUnder_15 rfl hl (by decide) rfl (fun ls hl => ?_)
      refine lv_goto (tgt := 2) hx hb dX13_isUnder_16 (by decide) ?_
      refine lv_iload_n hx hb dX13_isUnder_2 rfl (lv_at hl 0 rfl) ?_
      refine lv_if_lt (tgt := 19) hx hb dX13_isUnder_3 (by decide) (fun _ => ?_) (fun z_5 => absurd (by decide) z_5)
      refine lv_iload_n hx hb dX13_isUnder_19 rfl (lv_at hl 0 rfl) ?_
      refine lv_if_lt (tgt := 27) hx hb dX13_isUnder_20 (by decide) (fun _ => ?_) (fun z_6 => absurd (by decide) z_6)
      refine lv_iconst (v := 0) hx hb dX13_isUnder_27 rfl ?_
      exact fr_z hx hb hr rfl hlocks hX hC () (congrArg (fun z => some (Value.int z)) (b2i_f (by simp [p_under, p_up, c_2]))) rfl dX13_isUnder_28
  · refine lv_iload_n hx hb dX13_isUnder_0 rfl (lv_at hl 0 rfl) ?_
    refine lv_istore_n (lv' := [(2, .int 1), (0, .int 1), (1, .int o)]) hx hb dX13_isUnder_1 rfl hl (by decide) rfl (fun ls hl => ?_)
    refine lv_iload_n hx hb dX13_isUnder_2 rfl (lv_at hl 0 rfl) ?_
    refine lv_if_lt (tgt := 19) hx hb dX13_isUnder_3 (by decide) (fun z_7 => absurd z_7 (by decide)) (fun _ => ?_)
    refine lv_iload_n hx hb dX13_isUnder_6 rfl (lv_at hl 0 rfl) ?_
    refine lv_iload_n hx hb dX13_isUnder_7 rfl (lv_at hl 2 rfl) ?_
    refine lv_icmp_eq (tgt := 19) hx hb dX13_isUnder_8 (by decide) (fun c_8 => ?_) (fun c_8 => ?_)
    · refine lv_iload_n hx hb dX13_isUnder_19 rfl (lv_at hl 0 rfl) ?_
      refine lv_if_lt (tgt := 27) hx hb dX13_isUnder_20 (by decide) (fun z_9 => absurd z_9 (by decide)) (fun _ => ?_)
      refine lv_iconst (v := 1) hx hb dX13_isUnder_23 rfl ?_
      refine lv_goto (tgt := 28) hx hb dX13_isUnder_24 (by decide) ?_
      exact fr_z hx hb hr rfl hlocks hX hC () (congrArg (fun z => some (Value.int z)) (b2i_t (by subst c_8; decide))) rfl dX13_isUnder_28
    · refine lv_iload_n hx hb dX13_isUnder_11 rfl (lv_at hl 0 rfl) ?_
      refine fc_S (As := [.int 1]) (rest := []) hx hb hml hown hts hX hC (m_X13_above 1) (lw_S q1826 q1827 q124 q1828) hdS_X13_above ⟨rfl, rfl⟩ ⟨Nat.le_of_ble_eq_true rfl, Nat.le_of_ble_eq_true rfl⟩ hl.1 rfl (Nat.le_of_ble_eq_true rfl) ⟨Nat.zero_le _, Nat.zero_le _⟩ dX13_isUnder_12 (fun _ H locs hC => ?_)
      refine W.eq (g2 := F0 m 15 ls [.int 0]) rfl ?_
      refine lv_istore_n (lv' := [(2, .int 0), (0, .int 1), (1, .int o)]) hx hb dX13_isUnder_15 rfl hl (by decide) rfl (fun ls hl => ?_)
      refine lv_goto (tgt := 2) hx hb dX13_isUnder_16 (by decide) ?_
      refine lv_iload_n hx hb dX13_isUnder_2 rfl (lv_at hl 0 rfl) ?_
      refine lv_if_lt (tgt := 19) hx hb dX13_isUnder_3 (by decide) (fun z_11 => absurd z_11 (by decide)) (fun _ => ?_)
      refine lv_iload_n hx hb dX13_isUnder_6 rfl (lv_at hl 0 rfl) ?_
      refine lv_iload_n hx hb dX13_isUnder_7 rfl (lv_at hl 2 rfl) ?_
      refine lv_icmp_eq (tgt := 19) hx hb dX13_isUnder_8 (by decide) (fun c_12 => ?_) (fun c_12 => ?_)
      · refine lv_iload_n hx hb dX13_isUnder_19 rfl (lv_at hl 0 rfl) ?_
        refine lv_if_lt (tgt := 27) hx hb dX13_isUnder_20 (by decide) (fun z_13 => absurd z_13 (by decide)) (fun _ => ?_)
        refine lv_iconst (v := 1) hx hb dX13_isUnder_23 rfl ?_
        refine lv_goto (tgt := 28) hx hb dX13_isUnder_24 (by decide) ?_
        exact fr_z hx hb hr rfl hlocks hX hC () (congrArg (fun z => some (Value.int z)) (b2i_t (by subst c_12; decide))) rfl dX13_isUnder_28
      · refine lv_iload_n hx hb dX13_isUnder_11 rfl (lv_at hl 0 rfl) ?_
        refine fc_S (As := [.int 0]) (rest := []) hx hb hml hown hts hX hC (m_X13_above 0) (lw_S q1826 q1827 q124 q1828) hdS_X13_above ⟨rfl, rfl⟩ ⟨Nat.le_of_ble_eq_true rfl, Nat.le_of_ble_eq_true rfl⟩ hl.1 rfl (Nat.le_of_ble_eq_true rfl) ⟨Nat.zero_le _, Nat.zero_le _⟩ dX13_isUnder_12 (fun _ H locs hC => ?_)
        refine W.eq (g2 := F0 m 15 ls [.int (-1)]) rfl ?_
        refine lv_istore_n (lv' := [(2, .int (-1)), (0, .int 1), (1, .int o)]) hx hb dX13_isUnder_15 rfl hl (by decide) rfl (fun ls hl => ?_)
        refine lv_goto (tgt := 2) hx hb dX13_isUnder_16 (by decide) ?_
        refine lv_iload_n hx hb dX13_isUnder_2 rfl (lv_at hl 0 rfl) ?_
        refine lv_if_lt (tgt := 19) hx hb dX13_isUnder_3 (by decide) (fun _ => ?_) (fun z_15 => absurd (by decide) z_15)
        refine lv_iload_n hx hb dX13_isUnder_19 rfl (lv_at hl 0 rfl) ?_
        refine lv_if_lt (tgt := 27) hx hb dX13_isUnder_20 (by decide) (fun _ => ?_) (fun z_16 => absurd (by decide) z_16)
        refine lv_iconst (v := 0) hx hb dX13_isUnder_27 rfl ?_
        exact fr_z hx hb hr rfl hlocks hX hC () (congrArg (fun z => some (Value.int z)) (b2i_f (by simp [p_under, p_up, c_8, c_12]))) rfl dX13_isUnder_28
  · refine lv_iload_n hx hb dX13_isUnder_0 rfl (lv_at hl 0 rfl) ?_
    refine lv_istore_n (lv' := [(2, .int 2), (0, .int 2), (1, .int o)]) hx hb dX13_isUnder_1 rfl hl (by decide) rfl (fun ls hl => ?_)
    refine lv_iload_n hx hb dX13_isUnder_2 rfl (lv_at hl 0 rfl) ?_
    refine lv_if_lt (tgt := 19) hx hb dX13_isUnder_3 (by decide) (fun z_17 => absurd z_17 (by decide)) (fun _ => ?_)
    refine lv_iload_n hx hb dX13_isUnder_6 rfl (lv_at hl 0 rfl) ?_
    refine lv_iload_n hx hb dX13_isUnder_7 rfl (lv_at hl 2 rfl) ?_
    refine lv_icmp_eq (tgt := 19) hx hb dX13_isUnder_8 (by decide) (fun c_18 => ?_) (fun c_18 => ?_)
    · refine lv_iload_n hx hb dX13_isUnder_19 rfl (lv_at hl 0 rfl) ?_
      refine lv_if_lt (tgt := 27) hx hb dX13_isUnder_20 (by decide) (fun z_19 => absurd z_19 (by decide)) (fun _ => ?_)
      refine lv_iconst (v := 1) hx hb dX13_isUnder_23 rfl ?_
      refine lv_goto (tgt := 28) hx hb dX13_isUnder_24 (by decide) ?_
      exact fr_z hx hb hr rfl hlocks hX hC () (congrArg (fun z => some (Value.int z)) (b2i_t (by subst c_18; decide))) rfl dX13_isUnder_28
    · refine lv_iload_n hx hb dX13_isUnder_11 rfl (lv_at hl 0 rfl) ?_
      refine fc_S (As := [.int 2]) (rest := []) hx hb hml hown hts hX hC (m_X13_above 2) (lw_S q1826 q1827 q124 q1828) hdS_X13_above ⟨rfl, rfl⟩ ⟨Nat.le_of_ble_eq_true rfl, Nat.le_of_ble_eq_true rfl⟩ hl.1 rfl (Nat.le_of_ble_eq_true rfl) ⟨Nat.zero_le _, Nat.zero_le _⟩ dX13_isUnder_12 (fun _ H locs hC => ?_)
      refine W.eq (g2 := F0 m 15 ls [.int 0]) rfl ?_
      refine lv_istore_n (lv' := [(2, .int 0), (0, .int 2), (1, .int o)]) hx hb dX13_isUnder_15 rfl hl (by decide) rfl (fun ls hl => ?_)
      refine lv_goto (tgt := 2) hx hb dX13_isUnder_16 (by decide) ?_
      refine lv_iload_n hx hb dX13_isUnder_2 rfl (lv_at hl 0 rfl) ?_
      refine lv_if_lt (tgt := 19) hx hb dX13_isUnder_3 (by decide) (fun z_21 => absurd z_21 (by decide)) (fun _ => ?_)
      refine lv_iload_n hx hb dX13_isUnder_6 rfl (lv_at hl 0 rfl) ?_
      refine lv_iload_n hx hb dX13_isUnder_7 rfl (lv_at hl 2 rfl) ?_
      refine lv_icmp_eq (tgt := 19) hx hb dX13_isUnder_8 (by decide) (fun c_22 => ?_) (fun c_22 => ?_)
      · refine lv_iload_n hx hb dX13_isUnder_19 rfl (lv_at hl 0 rfl) ?_
        refine lv_if_lt (tgt := 27) hx hb dX13_isUnder_20 (by decide) (fun z_23 => absurd z_23 (by decide)) (fun _ => ?_)
        refine lv_iconst (v := 1) hx hb dX13_isUnder_23 rfl ?_
        refine lv_goto (tgt := 28) hx hb dX13_isUnder_24 (by decide) ?_
        exact fr_z hx hb hr rfl hlocks hX hC () (congrArg (fun z => some (Value.int z)) (b2i_t (by subst c_22; decide))) rfl dX13_isUnder_28
      · refine lv_iload_n hx hb dX13_isUnder_11 rfl (lv_at hl 0 rfl) ?_
        refine fc_S (As := [.int 0]) (rest := []) hx hb hml hown hts hX hC (m_X13_above 0) (lw_S q1826 q1827 q124 q1828) hdS_X13_above ⟨rfl, rfl⟩ ⟨Nat.le_of_ble_eq_true rfl, Nat.le_of_ble_eq_true rfl⟩ hl.1 rfl (Nat.le_of_ble_eq_true rfl) ⟨Nat.zero_le _, Nat.zero_le _⟩ dX13_isUnder_12 (fun _ H locs hC => ?_)
        refine W.eq (g2 := F0 m 15 ls [.int (-1)]) rfl ?_
        refine lv_istore_n (lv' := [(2, .int (-1)), (0, .int 2), (1, .int o)]) hx hb dX13_isUnder_15 rfl hl (by decide) rfl (fun ls hl => ?_)
        refine lv_goto (tgt := 2) hx hb dX13_isUnder_16 (by decide) ?_
        refine lv_iload_n hx hb dX13_isUnder_2 rfl (lv_at hl 0 rfl) ?_
        refine lv_if_lt (tgt := 19) hx hb dX13_isUnder_3 (by decide) (fun _ => ?_) (fun z_25 => absurd (by decide) z_25)
        refine lv_iload_n hx hb dX13_isUnder_19 rfl (lv_at hl 0 rfl) ?_
        refine lv_if_lt (tgt := 27) hx hb dX13_isUnder_20 (by decide) (fun _ => ?_) (fun z_26 => absurd (by decide) z_26)
        refine lv_iconst (v := 0) hx hb dX13_isUnder_27 rfl ?_
        exact fr_z hx hb hr rfl hlocks hX hC () (congrArg (fun z => some (Value.int z)) (b2i_f (by simp [p_under, p_up, c_18, c_22]))) rfl dX13_isUnder_28
  · refine lv_iload_n hx hb dX13_isUnder_0 rfl (lv_at hl 0 rfl) ?_
    refine lv_istore_n (lv' := [(2, .int 3), (0, .int 3), (1, .int o)]) hx hb dX13_isUnder_1 rfl hl (by decide) rfl (fun ls hl => ?_)
    refine lv_iload_n hx hb dX13_isUnder_2 rfl (lv_at hl 0 rfl) ?_
    refine lv_if_lt (tgt := 19) hx hb dX13_isUnder_3 (by decide) (fun z_27 => absurd z_27 (by decide)) (fun _ => ?_)
    refine lv_iload_n hx hb dX13_isUnder_6 rfl (lv_at hl 0 rfl) ?_
    refine lv_iload_n hx hb dX13_isUnder_7 rfl (lv_at hl 2 rfl) ?_
    refine lv_icmp_eq (tgt := 19) hx hb dX13_isUnder_8 (by decide) (fun c_28 => ?_) (fun c_28 => ?_)
    · refine lv_iload_n hx hb dX13_isUnder_19 rfl (lv_at hl 0 rfl) ?_
      refine lv_if_lt (tgt := 27) hx hb dX13_isUnder_20 (by decide) (fun z_29 => absurd z_29 (by decide)) (fun _ => ?_)
      refine lv_iconst (v := 1) hx hb dX13_isUnder_23 rfl ?_
      refine lv_goto (tgt := 28) hx hb dX13_isUnder_24 (by decide) ?_
      exact fr_z hx hb hr rfl hlocks hX hC () (congrArg (fun z => some (Value.int z)) (b2i_t (by subst c_28; decide))) rfl dX13_isUnder_28
    · refine lv_iload_n hx hb dX13_isUnder_11 rfl (lv_at hl 0 rfl) ?_
      refine fc_S (As := [.int 3]) (rest := []) hx hb hml hown hts hX hC (m_X13_above 3) (lw_S q1826 q1827 q124 q1828) hdS_X13_above ⟨rfl, rfl⟩ ⟨Nat.le_of_ble_eq_true rfl, Nat.le_of_ble_eq_true rfl⟩ hl.1 rfl (Nat.le_of_ble_eq_true rfl) ⟨Nat.zero_le _, Nat.zero_le _⟩ dX13_isUnder_12 (fun _ H locs hC => ?_)
      refine W.eq (g2 := F0 m 15 ls [.int 2]) rfl ?_
      refine lv_istore_n (lv' := [(2, .int 2), (0, .int 3), (1, .int o)]) hx hb dX13_isUnder_15 rfl hl (by decide) rfl (fun ls hl => ?_)
      refine lv_goto (tgt := 2) hx hb dX13_isUnder_16 (by decide) ?_
      refine lv_iload_n hx hb dX13_isUnder_2 rfl (lv_at hl 0 rfl) ?_
      refine lv_if_lt (tgt := 19) hx hb dX13_isUnder_3 (by decide) (fun z_31 => absurd z_31 (by decide)) (fun _ => ?_)
      refine lv_iload_n hx hb dX13_isUnder_6 rfl (lv_at hl 0 rfl) ?_
      refine lv_iload_n hx hb dX13_isUnder_7 rfl (lv_at hl 2 rfl) ?_
      refine lv_icmp_eq (tgt := 19) hx hb dX13_isUnder_8 (by decide) (fun c_32 => ?_) (fun c_32 => ?_)
      · refine lv_iload_n hx hb dX13_isUnder_19 rfl (lv_at hl 0 rfl) ?_
        refine lv_if_lt (tgt := 27) hx hb dX13_isUnder_20 (by decide) (fun z_33 => absurd z_33 (by decide)) (fun _ => ?_)
        refine lv_iconst (v := 1) hx hb dX13_isUnder_23 rfl ?_
        refine lv_goto (tgt := 28) hx hb dX13_isUnder_24 (by decide) ?_
        exact fr_z hx hb hr rfl hlocks hX hC () (congrArg (fun z => some (Value.int z)) (b2i_t (by subst c_32; decide))) rfl dX13_isUnder_28
      · refine lv_iload_n hx hb dX13_isUnder_11 rfl (lv_at hl 0 rfl) ?_
        refine fc_S (As := [.int 2]) (rest := []) hx hb hml hown hts hX hC (m_X13_above 2) (lw_S q1826 q1827 q124 q1828) hdS_X13_above ⟨rfl, rfl⟩ ⟨Nat.le_of_ble_eq_true rfl, Nat.le_of_ble_eq_true rfl⟩ hl.1 rfl (Nat.le_of_ble_eq_true rfl) ⟨Nat.zero_le _, Nat.zero_le _⟩ dX13_isUnder_12 (fun _ H locs hC => ?_)
        refine W.eq (g2 := F0 m 15 ls [.int 0]) rfl ?_
        refine lv_istore_n (lv' := [(2, .int 0), (0, .int 3), (1, .int o)]) hx hb dX13_isUnder_15 rfl hl (by decide) rfl (fun ls hl => ?_)
        refine lv_goto (tgt := 2) hx hb dX13_isUnder_16 (by decide) ?_
        refine lv_iload_n hx hb dX13_isUnder_2 rfl (lv_at hl 0 rfl) ?_
        refine lv_if_lt (tgt := 19) hx hb dX13_isUnder_3 (by decide) (fun z_35 => absurd z_35 (by decide)) (fun _ => ?_)
        refine lv_iload_n hx hb dX13_isUnder_6 rfl (lv_at hl 0 rfl) ?_
        refine lv_iload_n hx hb dX13_isUnder_7 rfl (lv_at hl 2 rfl) ?_
        refine lv_icmp_eq (tgt := 19) hx hb dX13_isUnder_8 (by decide) (fun c_36 => ?_) (fun c_36 => ?_)
        · refine lv_iload_n hx hb dX13_isUnder_19 rfl (lv_at hl 0 rfl) ?_
          refine lv_if_lt (tgt := 27) hx hb dX13_isUnder_20 (by decide) (fun z_37 => absurd z_37 (by decide)) (fun _ => ?_)
          refine lv_iconst (v := 1) hx hb dX13_isUnder_23 rfl ?_
          refine lv_goto (tgt := 28) hx hb dX13_isUnder_24 (by decide) ?_
          exact fr_z hx hb hr rfl hlocks hX hC () (congrArg (fun z => some (Value.int z)) (b2i_t (by subst c_36; decide))) rfl dX13_isUnder_28
        · refine lv_iload_n hx hb dX13_isUnder_11 rfl (lv_at hl 0 rfl) ?_
          refine fc_S (As := [.int 0]) (rest := []) hx hb hml hown hts hX hC (m_X13_above 0) (lw_S q1826 q1827 q124 q1828) hdS_X13_above ⟨rfl, rfl⟩ ⟨Nat.le_of_ble_eq_true rfl, Nat.le_of_ble_eq_true rfl⟩ hl.1 rfl (Nat.le_of_ble_eq_true rfl) ⟨Nat.zero_le _, Nat.zero_le _⟩ dX13_isUnder_12 (fun _ H locs hC => ?_)
          refine W.eq (g2 := F0 m 15 ls [.int (-1)]) rfl ?_
          refine lv_istore_n (lv' := [(2, .int (-1)), (0, .int 3), (1, .int o)]) hx hb dX13_isUnder_15 rfl hl (by decide) rfl (fun ls hl => ?_)
          refine lv_goto (tgt := 2) hx hb dX13_isUnder_16 (by decide) ?_
          refine lv_iload_n hx hb dX13_isUnder_2 rfl (lv_at hl 0 rfl) ?_
          refine lv_if_lt (tgt := 19) hx hb dX13_isUnder_3 (by decide) (fun _ => ?_) (fun z_39 => absurd (by decide) z_39)
          refine lv_iload_n hx hb dX13_isUnder_19 rfl (lv_at hl 0 rfl) ?_
          refine lv_if_lt (tgt := 27) hx hb dX13_isUnder_20 (by decide) (fun _ => ?_) (fun z_40 => absurd (by decide) z_40)
          refine lv_iconst (v := 0) hx hb dX13_isUnder_27 rfl ?_
          exact fr_z hx hb hr rfl hlocks hX hC () (congrArg (fun z => some (Value.int z)) (b2i_f (by simp [p_under, p_up, c_28, c_32, c_36]))) rfl dX13_isUnder_28
  · refine lv_iload_n hx hb dX13_isUnder_0 rfl (lv_at hl 0 rfl) ?_
    refine lv_istore_n (lv' := [(2, .int 4), (0, .int 4), (1, .int o)]) hx hb dX13_isUnder_1 rfl hl (by decide) rfl (fun ls hl => ?_)
    refine lv_iload_n hx hb dX13_isUnder_2 rfl (lv_at hl 0 rfl) ?_
    refine lv_if_lt (tgt := 19) hx hb dX13_isUnder_3 (by decide) (fun z_41 => absurd z_41 (by decide)) (fun _ => ?_)
    refine lv_iload_n hx hb dX13_isUnder_6 rfl (lv_at hl 0 rfl) ?_
    refine lv_iload_n hx hb dX13_isUnder_7 rfl (lv_at hl 2 rfl) ?_
    refine lv_icmp_eq (tgt := 19) hx hb dX13_isUnder_8 (by decide) (fun c_42 => ?_) (fun c_42 => ?_)
    · refine lv_iload_n hx hb dX13_isUnder_19 rfl (lv_at hl 0 rfl) ?_
      refine lv_if_lt (tgt := 27) hx hb dX13_isUnder_20 (by decide) (fun z_43 => absurd z_43 (by decide)) (fun _ => ?_)
      refine lv_iconst (v := 1) hx hb dX13_isUnder_23 rfl ?_
      refine lv_goto (tgt := 28) hx hb dX13_isUnder_24 (by decide) ?_
      exact fr_z hx hb hr rfl hlocks hX hC () (congrArg (fun z => some (Value.int z)) (b2i_t (by subst c_42; decide))) rfl dX13_isUnder_28
    · refine lv_iload_n hx hb dX13_isUnder_11 rfl (lv_at hl 0 rfl) ?_
      refine fc_S (As := [.int 4]) (rest := []) hx hb hml hown hts hX hC (m_X13_above 4) (lw_S q1826 q1827 q124 q1828) hdS_X13_above ⟨rfl, rfl⟩ ⟨Nat.le_of_ble_eq_true rfl, Nat.le_of_ble_eq_true rfl⟩ hl.1 rfl (Nat.le_of_ble_eq_true rfl) ⟨Nat.zero_le _, Nat.zero_le _⟩ dX13_isUnder_12 (fun _ H locs hC => ?_)
      refine W.eq (g2 := F0 m 15 ls [.int 3]) rfl ?_
      refine lv_istore_n (lv' := [(2, .int 3), (0, .int 4), (1, .int o)]) hx hb dX13_isUnder_15 rfl hl (by decide) rfl (fun ls hl => ?_)
      refine lv_goto (tgt := 2) hx hb dX13_isUnder_16 (by decide) ?_
      refine lv_iload_n hx hb dX13_isUnder_2 rfl (lv_at hl 0 rfl) ?_
      refine lv_if_lt (tgt := 19) hx hb dX13_isUnder_3 (by decide) (fun z_45 => absurd z_45 (by decide)) (fun _ => ?_)
      refine lv_iload_n hx hb dX13_isUnder_6 rfl (lv_at hl 0 rfl) ?_
      refine lv_iload_n hx hb dX13_isUnder_7 rfl (lv_at hl 2 rfl) ?_
      refine lv_icmp_eq (tgt := 19) hx hb dX13_isUnder_8 (by decide) (fun c_46 => ?_) (fun c_46 => ?_)
      · refine lv_iload_n hx hb dX13_isUnder_19 rfl (lv_at hl 0 rfl) ?_
        refine lv_if_lt (tgt := 27) hx hb dX13_isUnder_20 (by decide) (fun z_47 => absurd z_47 (by decide)) (fun _ => ?_)
        refine lv_iconst (v := 1) hx hb dX13_isUnder_23 rfl ?_
        refine lv_goto (tgt := 28) hx hb dX13_isUnder_24 (by decide) ?_
        exact fr_z hx hb hr rfl hlocks hX hC () (congrArg (fun z => some (Value.int z)) (b2i_t (by subst c_46; decide))) rfl dX13_isUnder_28
      · refine lv_iload_n hx hb dX13_isUnder_11 rfl (lv_at hl 0 rfl) ?_
        refine fc_S (As := [.int 3]) (rest := []) hx hb hml hown hts hX hC (m_X13_above 3) (lw_S q1826 q1827 q124 q1828) hdS_X13_above ⟨rfl, rfl⟩ ⟨Nat.le_of_ble_eq_true rfl, Nat.le_of_ble_eq_true rfl⟩ hl.1 rfl (Nat.le_of_ble_eq_true rfl) ⟨Nat.zero_le _, Nat.zero_le _⟩ dX13_isUnder_12 (fun _ H locs hC => ?_)
        refine W.eq (g2 := F0 m 15 ls [.int 2]) rfl ?_
        refine lv_istore_n (lv' := [(2, .int 2), (0, .int 4), (1, .int o)]) hx hb dX13_isUnder_15 rfl hl (by decide) rfl (fun ls hl => ?_)
        refine lv_goto (tgt := 2) hx hb dX13_isUnder_16 (by decide) ?_
        refine lv_iload_n hx hb dX13_isUnder_2 rfl (lv_at hl 0 rfl) ?_
        refine lv_if_lt (tgt := 19) hx hb dX13_isUnder_3 (by decide) (fun z_49 => absurd z_49 (by decide)) (fun _ => ?_)
        refine lv_iload_n hx hb dX13_isUnder_6 rfl (lv_at hl 0 rfl) ?_
        refine lv_iload_n hx hb dX13_isUnder_7 rfl (lv_at hl 2 rfl) ?_
        refine lv_icmp_eq (tgt := 19) hx hb dX13_isUnder_8 (by decide) (fun c_50 => ?_) (fun c_50 => ?_)
        · refine lv_iload_n hx hb dX13_isUnder_19 rfl (lv_at hl 0 rfl) ?_
          refine lv_if_lt (tgt := 27) hx hb dX13_isUnder_20 (by decide) (fun z_51 => absurd z_51 (by decide)) (fun _ => ?_)
          refine lv_iconst (v := 1) hx hb dX13_isUnder_23 rfl ?_
          refine lv_goto (tgt := 28) hx hb dX13_isUnder_24 (by decide) ?_
          exact fr_z hx hb hr rfl hlocks hX hC () (congrArg (fun z => some (Value.int z)) (b2i_t (by subst c_50; decide))) rfl dX13_isUnder_28
        · refine lv_iload_n hx hb dX13_isUnder_11 rfl (lv_at hl 0 rfl) ?_
          refine fc_S (As := [.int 2]) (rest := []) hx hb hml hown hts hX hC (m_X13_above 2) (lw_S q1826 q1827 q124 q1828) hdS_X13_above ⟨rfl, rfl⟩ ⟨Nat.le_of_ble_eq_true rfl, Nat.le_of_ble_eq_true rfl⟩ hl.1 rfl (Nat.le_of_ble_eq_true rfl) ⟨Nat.zero_le _, Nat.zero_le _⟩ dX13_isUnder_12 (fun _ H locs hC => ?_)
          refine W.eq (g2 := F0 m 15 ls [.int 0]) rfl ?_
          refine lv_istore_n (lv' := [(2, .int 0), (0, .int 4), (1, .int o)]) hx hb dX13_isUnder_15 rfl hl (by decide) rfl (fun ls hl => ?_)
          refine lv_goto (tgt := 2) hx hb dX13_isUnder_16 (by decide) ?_
          refine lv_iload_n hx hb dX13_isUnder_2 rfl (lv_at hl 0 rfl) ?_
          refine lv_if_lt (tgt := 19) hx hb dX13_isUnder_3 (by decide) (fun z_53 => absurd z_53 (by decide)) (fun _ => ?_)
          refine lv_iload_n hx hb dX13_isUnder_6 rfl (lv_at hl 0 rfl) ?_
          refine lv_iload_n hx hb dX13_isUnder_7 rfl (lv_at hl 2 rfl) ?_
          refine lv_icmp_eq (tgt := 19) hx hb dX13_isUnder_8 (by decide) (fun c_54 => ?_) (fun c_54 => ?_)
          · refine lv_iload_n hx hb dX13_isUnder_19 rfl (lv_at hl 0 rfl) ?_
            refine lv_if_lt (tgt := 27) hx hb dX13_isUnder_20 (by decide) (fun z_55 => absurd z_55 (by decide)) (fun _ => ?_)
            refine lv_iconst (v := 1) hx hb dX13_isUnder_23 rfl ?_
            refine lv_goto (tgt := 28) hx hb dX13_isUnder_24 (by decide) ?_
            exact fr_z hx hb hr rfl hlocks hX hC () (congrArg (fun z => some (Value.int z)) (b2i_t (by subst c_54; decide))) rfl dX13_isUnder_28
          · refine lv_iload_n hx hb dX13_isUnder_11 rfl (lv_at hl 0 rfl) ?_
            refine fc_S (As := [.int 0]) (rest := []) hx hb hml hown hts hX hC (m_X13_above 0) (lw_S q1826 q1827 q124 q1828) hdS_X13_above ⟨rfl, rfl⟩ ⟨Nat.le_of_ble_eq_true rfl, Nat.le_of_ble_eq_true rfl⟩ hl.1 rfl (Nat.le_of_ble_eq_true rfl) ⟨Nat.zero_le _, Nat.zero_le _⟩ dX13_isUnder_12 (fun _ H locs hC => ?_)
            refine W.eq (g2 := F0 m 15 ls [.int (-1)]) rfl ?_
            refine lv_istore_n (lv' := [(2, .int (-1)), (0, .int 4), (1, .int o)]) hx hb dX13_isUnder_15 rfl hl (by decide) rfl (fun ls hl => ?_)
            refine lv_goto (tgt := 2) hx hb dX13_isUnder_16 (by decide) ?_
            refine lv_iload_n hx hb dX13_isUnder_2 rfl (lv_at hl 0 rfl) ?_
            refine lv_if_lt (tgt := 19) hx hb dX13_isUnder_3 (by decide) (fun _ => ?_) (fun z_57 => absurd (by decide) z_57)
            refine lv_iload_n hx hb dX13_isUnder_19 rfl (lv_at hl 0 rfl) ?_
            refine lv_if_lt (tgt := 27) hx hb dX13_isUnder_20 (by decide) (fun _ => ?_) (fun z_58 => absurd (by decide) z_58)
            refine lv_iconst (v := 0) hx hb dX13_isUnder_27 rfl ?_
            exact fr_z hx hb hr rfl hlocks hX hC () (congrArg (fun z => some (Value.int z)) (b2i_f (by simp [p_under, p_up, c_42, c_46, c_50, c_54]))) rfl dX13_isUnder_28
  · refine lv_iload_n hx hb dX13_isUnder_0 rfl (lv_at hl 0 rfl) ?_
    refine lv_istore_n (lv' := [(2, .int 5), (0, .int 5), (1, .int o)]) hx hb dX13_isUnder_1 rfl hl (by decide) rfl (fun ls hl => ?_)
    refine lv_iload_n hx hb dX13_isUnder_2 rfl (lv_at hl 0 rfl) ?_
    refine lv_if_lt (tgt := 19) hx hb dX13_isUnder_3 (by decide) (fun z_59 => absurd z_59 (by decide)) (fun _ => ?_)
    refine lv_iload_n hx hb dX13_isUnder_6 rfl (lv_at hl 0 rfl) ?_
    refine lv_iload_n hx hb dX13_isUnder_7 rfl (lv_at hl 2 rfl) ?_
    refine lv_icmp_eq (tgt := 19) hx hb dX13_isUnder_8 (by decide) (fun c_60 => ?_) (fun c_60 => ?_)
    · refine lv_iload_n hx hb dX13_isUnder_19 rfl (lv_at hl 0 rfl) ?_
      refine lv_if_lt (tgt := 27) hx hb dX13_isUnder_20 (by decide) (fun z_61 => absurd z_61 (by decide)) (fun _ => ?_)
      refine lv_iconst (v := 1) hx hb dX13_isUnder_23 rfl ?_
      refine lv_goto (tgt := 28) hx hb dX13_isUnder_24 (by decide) ?_
      exact fr_z hx hb hr rfl hlocks hX hC () (congrArg (fun z => some (Value.int z)) (b2i_t (by subst c_60; decide))) rfl dX13_isUnder_28
    · refine lv_iload_n hx hb dX13_isUnder_11 rfl (lv_at hl 0 rfl) ?_
      refine fc_S (As := [.int 5]) (rest := []) hx hb hml hown hts hX hC (m_X13_above 5) (lw_S q1826 q1827 q124 q1828) hdS_X13_above ⟨rfl, rfl⟩ ⟨Nat.le_of_ble_eq_true rfl, Nat.le_of_ble_eq_true rfl⟩ hl.1 rfl (Nat.le_of_ble_eq_true rfl) ⟨Nat.zero_le _, Nat.zero_le _⟩ dX13_isUnder_12 (fun _ H locs hC => ?_)
      refine W.eq (g2 := F0 m 15 ls [.int 0]) rfl ?_
      refine lv_istore_n (lv' := [(2, .int 0), (0, .int 5), (1, .int o)]) hx hb dX13_isUnder_15 rfl hl (by decide) rfl (fun ls hl => ?_)
      refine lv_goto (tgt := 2) hx hb dX13_isUnder_16 (by decide) ?_
      refine lv_iload_n hx hb dX13_isUnder_2 rfl (lv_at hl 0 rfl) ?_
      refine lv_if_lt (tgt := 19) hx hb dX13_isUnder_3 (by decide) (fun z_63 => absurd z_63 (by decide)) (fun _ => ?_)
      refine lv_iload_n hx hb dX13_isUnder_6 rfl (lv_at hl 0 rfl) ?_
      refine lv_iload_n hx hb dX13_isUnder_7 rfl (lv_at hl 2 rfl) ?_
      refine lv_icmp_eq (tgt := 19) hx hb dX13_isUnder_8 (by decide) (fun c_64 => ?_) (fun c_64 => ?_)
      · refine lv_iload_n hx hb dX13_isUnder_19 rfl (lv_at hl 0 rfl) ?_
        refine lv_if_lt (tgt := 27) hx hb dX13_isUnder_20 (by decide) (fun z_65 => absurd z_65 (by decide)) (fun _ => ?_)
        refine lv_iconst (v := 1) hx hb dX13_isUnder_23 rfl ?_
        refine lv_goto (tgt := 28) hx hb dX13_isUnder_24 (by decide) ?_
        exact fr_z hx hb hr rfl hlocks hX hC () (congrArg (fun z => some (Value.int z)) (b2i_t (by subst c_64; decide))) rfl dX13_isUnder_28
      · refine lv_iload_n hx hb dX13_isUnder_11 rfl (lv_at hl 0 rfl) ?_
        refine fc_S (As := [.int 0]) (rest := []) hx hb hml hown hts hX hC (m_X13_above 0) (lw_S q1826 q1827 q124 q1828) hdS_X13_above ⟨rfl, rfl⟩ ⟨Nat.le_of_ble_eq_true rfl, Nat.le_of_ble_eq_true rfl⟩ hl.1 rfl (Nat.le_of_ble_eq_true rfl) ⟨Nat.zero_le _, Nat.zero_le _⟩ dX13_isUnder_12 (fun _ H locs hC => ?_)
        refine W.eq (g2 := F0 m 15 ls [.int (-1)]) rfl ?_
        refine lv_istore_n (lv' := [(2, .int (-1)), (0, .int 5), (1, .int o)]) hx hb dX13_isUnder_15 rfl hl (by decide) rfl (fun ls hl => ?_)
        refine lv_goto (tgt := 2) hx hb dX13_isUnder_16 (by decide) ?_
        refine lv_iload_n hx hb dX13_isUnder_2 rfl (lv_at hl 0 rfl) ?_
        refine lv_if_lt (tgt := 19) hx hb dX13_isUnder_3 (by decide) (fun _ => ?_) (fun z_67 => absurd (by decide) z_67)
        refine lv_iload_n hx hb dX13_isUnder_19 rfl (lv_at hl 0 rfl) ?_
        refine lv_if_lt (tgt := 27) hx hb dX13_isUnder_20 (by decide) (fun _ => ?_) (fun z_68 => absurd (by decide) z_68)
        refine lv_iconst (v := 0) hx hb dX13_isUnder_27 rfl ?_
        exact fr_z hx hb hr rfl hlocks hX hC () (congrArg (fun z => some (Value.int z)) (b2i_f (by simp [p_under, p_up, c_60, c_64]))) rfl dX13_isUnder_28
  · refine lv_iload_n hx hb dX13_isUnder_0 rfl (lv_at hl 0 rfl) ?_
    refine lv_istore_n (lv' := [(2, .int 6), (0, .int 6), (1, .int o)]) hx hb dX13_isUnder_1 rfl hl (by decide) rfl (fun ls hl => ?_)
    refine lv_iload_n hx hb dX13_isUnder_2 rfl (lv_at hl 0 rfl) ?_
    refine lv_if_lt (tgt := 19) hx hb dX13_isUnder_3 (by decide) (fun z_69 => absurd z_69 (by decide)) (fun _ => ?_)
    refine lv_iload_n hx hb dX13_isUnder_6 rfl (lv_at hl 0 rfl) ?_
    refine lv_iload_n hx hb dX13_isUnder_7 rfl (lv_at hl 2 rfl) ?_
    refine lv_icmp_eq (tgt := 19) hx hb dX13_isUnder_8 (by decide) (fun c_70 => ?_) (fun c_70 => ?_)
    · refine lv_iload_n hx hb dX13_isUnder_19 rfl (lv_at hl 0 rfl) ?_
      refine lv_if_lt (tgt := 27) hx hb dX13_isUnder_20 (by decide) (fun z_71 => absurd z_71 (by decide)) (fun _ => ?_)
      refine lv_iconst (v := 1) hx hb dX13_isUnder_23 rfl ?_
      refine lv_goto (tgt := 28) hx hb dX13_isUnder_24 (by decide) ?_
      exact fr_z hx hb hr rfl hlocks hX hC () (congrArg (fun z => some (Value.int z)) (b2i_t (by subst c_70; decide))) rfl dX13_isUnder_28
    · refine lv_iload_n hx hb dX13_isUnder_11 rfl (lv_at hl 0 rfl) ?_
      refine fc_S (As := [.int 6]) (rest := []) hx hb hml hown hts hX hC (m_X13_above 6) (lw_S q1826 q1827 q124 q1828) hdS_X13_above ⟨rfl, rfl⟩ ⟨Nat.le_of_ble_eq_true rfl, Nat.le_of_ble_eq_true rfl⟩ hl.1 rfl (Nat.le_of_ble_eq_true rfl) ⟨Nat.zero_le _, Nat.zero_le _⟩ dX13_isUnder_12 (fun _ H locs hC => ?_)
      refine W.eq (g2 := F0 m 15 ls [.int 1]) rfl ?_
      refine lv_istore_n (lv' := [(2, .int 1), (0, .int 6), (1, .int o)]) hx hb dX13_isUnder_15 rfl hl (by decide) rfl (fun ls hl => ?_)
      refine lv_goto (tgt := 2) hx hb dX13_isUnder_16 (by decide) ?_
      refine lv_iload_n hx hb dX13_isUnder_2 rfl (lv_at hl 0 rfl) ?_
      refine lv_if_lt (tgt := 19) hx hb dX13_isUnder_3 (by decide) (fun z_73 => absurd z_73 (by decide)) (fun _ => ?_)
      refine lv_iload_n hx hb dX13_isUnder_6 rfl (lv_at hl 0 rfl) ?_
      refine lv_iload_n hx hb dX13_isUnder_7 rfl (lv_at hl 2 rfl) ?_
      refine lv_icmp_eq (tgt := 19) hx hb dX13_isUnder_8 (by decide) (fun c_74 => ?_) (fun c_74 => ?_)
      · refine lv_iload_n hx hb dX13_isUnder_19 rfl (lv_at hl 0 rfl) ?_
        refine lv_if_lt (tgt := 27) hx hb dX13_isUnder_20 (by decide) (fun z_75 => absurd z_75 (by decide)) (fun _ => ?_)
        refine lv_iconst (v := 1) hx hb dX13_isUnder_23 rfl ?_
        refine lv_goto (tgt := 28) hx hb dX13_isUnder_24 (by decide) ?_
        exact fr_z hx hb hr rfl hlocks hX hC () (congrArg (fun z => some (Value.int z)) (b2i_t (by subst c_74; decide))) rfl dX13_isUnder_28
      · refine lv_iload_n hx hb dX13_isUnder_11 rfl (lv_at hl 0 rfl) ?_
        refine fc_S (As := [.int 1]) (rest := []) hx hb hml hown hts hX hC (m_X13_above 1) (lw_S q1826 q1827 q124 q1828) hdS_X13_above ⟨rfl, rfl⟩ ⟨Nat.le_of_ble_eq_true rfl, Nat.le_of_ble_eq_true rfl⟩ hl.1 rfl (Nat.le_of_ble_eq_true rfl) ⟨Nat.zero_le _, Nat.zero_le _⟩ dX13_isUnder_12 (fun _ H locs hC => ?_)
        refine W.eq (g2 := F0 m 15 ls [.int 0]) rfl ?_
        refine lv_istore_n (lv' := [(2, .int 0), (0, .int 6), (1, .int o)]) hx hb dX13_isUnder_15 rfl hl (by decide) rfl (fun ls hl => ?_)
        refine lv_goto (tgt := 2) hx hb dX13_isUnder_16 (by decide) ?_
        refine lv_iload_n hx hb dX13_isUnder_2 rfl (lv_at hl 0 rfl) ?_
        refine lv_if_lt (tgt := 19) hx hb dX13_isUnder_3 (by decide) (fun z_77 => absurd z_77 (by decide)) (fun _ => ?_)
        refine lv_iload_n hx hb dX13_isUnder_6 rfl (lv_at hl 0 rfl) ?_
        refine lv_iload_n hx hb dX13_isUnder_7 rfl (lv_at hl 2 rfl) ?_
        refine lv_icmp_eq (tgt := 19) hx hb dX13_isUnder_8 (by decide) (fun c_78 => ?_) (fun c_78 => ?_)
        · refine lv_iload_n hx hb dX13_isUnder_19 rfl (lv_at hl 0 rfl) ?_
          refine lv_if_lt (tgt := 27) hx hb dX13_isUnder_20 (by decide) (fun z_79 => absurd z_79 (by decide)) (fun _ => ?_)
          refine lv_iconst (v := 1) hx hb dX13_isUnder_23 rfl ?_
          refine lv_goto (tgt := 28) hx hb dX13_isUnder_24 (by decide) ?_
          exact fr_z hx hb hr rfl hlocks hX hC () (congrArg (fun z => some (Value.int z)) (b2i_t (by subst c_78; decide))) rfl dX13_isUnder_28
        · refine lv_iload_n hx hb dX13_isUnder_11 rfl (lv_at hl 0 rfl) ?_
          refine fc_S (As := [.int 0]) (rest := []) hx hb hml hown hts hX hC (m_X13_above 0) (lw_S q1826 q1827 q124 q1828) hdS_X13_above ⟨rfl, rfl⟩ ⟨Nat.le_of_ble_eq_true rfl, Nat.le_of_ble_eq_true rfl⟩ hl.1 rfl (Nat.le_of_ble_eq_true rfl) ⟨Nat.zero_le _, Nat.zero_le _⟩ dX13_isUnder_12 (fun _ H locs hC => ?_)
          refine W.eq (g2 := F0 m 15 ls [.int (-1)]) rfl ?_
          refine lv_istore_n (lv' := [(2, .int (-1)), (0, .int 6), (1, .int o)]) hx hb dX13_isUnder_15 rfl hl (by decide) rfl (fun ls hl => ?_)
          refine lv_goto (tgt := 2) hx hb dX13_isUnder_16 (by decide) ?_
          refine lv_iload_n hx hb dX13_isUnder_2 rfl (lv_at hl 0 rfl) ?_
          refine lv_if_lt (tgt := 19) hx hb dX13_isUnder_3 (by decide) (fun _ => ?_) (fun z_81 => absurd (by decide) z_81)
          refine lv_iload_n hx hb dX13_isUnder_19 rfl (lv_at hl 0 rfl) ?_
          refine lv_if_lt (tgt := 27) hx hb dX13_isUnder_20 (by decide) (fun _ => ?_) (fun z_82 => absurd (by decide) z_82)
          refine lv_iconst (v := 0) hx hb dX13_isUnder_27 rfl ?_
          exact fr_z hx hb hr rfl hlocks hX hC () (congrArg (fun z => some (Value.int z)) (b2i_f (by simp [p_under, p_up, c_70, c_74, c_78]))) rfl dX13_isUnder_28
set_option maxRecDepth 100000 in
theorem m_X13_as {l : Launch} {G : Gm} {d kp as bf sc fd tp it ws sz nu mv : Row} (hw : WF d) (spot kind : Int32) : Cm l yX13_as (ws_ yX13_as cX13_as 4 (some .int)) ({ frames := 2, cells := 0, slots := 0, locals := 43 }) (mF G) [.ref (G.ad 0 0), .int spot, .int kind] (mct G (mpg d kp as bf sc fd tp it ws sz nu mv)) (fun _ : Unit => some (.int ((s_as d fd spot kind).1))) (fun _ => mct G (mpg d kp as bf sc ((s_as d fd spot kind).2) tp it ws sz nu mv)) := by
  refine Cm.start (by decide) (Nat.le_of_ble_eq_true rfl) ?_
  intro p e s m below meth c hf hX hC ls hl
  obtain ⟨hx, hb, hr, hml, hown, hts, hlocks⟩ := hf
  have hl : lv_has ls 4 [(0, .ref (G.ad 0 0)), (1, .int spot), (2, .int kind)] := hl
  have hown : s.vm.findClass "OwlEarsModel" = some m.cls := hown
  refine lv_iload_n hx hb dX13_as_0 rfl (lv_at hl 1 rfl) ?_
  refine fc_S (As := [.int spot]) (rest := []) hx hb hml hown hts hX hC (m_X13_isSpot spot) (lw_S q1816 q1817 q124 q1818) hdS_X13_isSpot ⟨rfl, rfl⟩ ⟨Nat.le_of_ble_eq_true rfl, Nat.le_of_ble_eq_true rfl⟩ hl.1 rfl (Nat.le_of_ble_eq_true rfl) ⟨Nat.zero_le _, Nat.zero_le _⟩ dX13_as_1 (fun _ H locs hC => ?_)
  refine W.eq (g2 := F0 m 4 ls [.int (b2i (p_in spot 0 9))]) rfl ?_
  refine fb_eq (tgt := 14) hx hb dX13_as_4 (by decide) (fun c_2 => ?_) (fun c_2 => ?_)
  · refine lv_aload_n hx hb dX13_as_14 rfl (lv_at hl 0 rfl) ?_
    refine lv_ldc (v := (-1000001)) hx hb hown (hts _ q1403) dX13_as_15 ?_
    refine fc_V (As := [.int (-1000001)]) (rest := []) hx hb hml hown hts hX hC (m_X13_finding 0 (vin_b rfl)) (lw_V q1404 q1406 qs56 q124 q1407) hdV_X13_finding ⟨rfl, rfl⟩ ⟨Nat.le_of_ble_eq_true rfl, Nat.le_of_ble_eq_true rfl⟩ (fx_recv (g := 0) (i := 0) (ci := 0) (q := (RX13, TX13, 24)) hX hC (min_ (by decide)) rfl rfl) hl.1 rfl (Nat.le_of_ble_eq_true rfl) ⟨Nat.zero_le _, Nat.zero_le _⟩ dX13_as_17 (fun _ H locs hC => ?_)
    refine W.eq (g2 := F0 m 20 ls [.int (-1000001)]) rfl ?_
    have hs : s_as d fd spot kind = (((-1000001), p_find fd 0) : Int32 × Row) := by rw [s_as, if_neg (fun z => c_2 z.1)]
    exact fr_i hx hb hr hlocks hX hC () (congrArg (fun z => some (Value.int z)) (t2_1 hs)) (congrArg (fun z => mct G (mpg d kp as bf sc z tp it ws sz nu mv)) (t2_2 hs)).symm dX13_as_20
  · refine lv_iload_n hx hb dX13_as_7 rfl (lv_at hl 2 rfl) ?_
    refine fc_S (As := [.int kind]) (rest := []) hx hb hml hown hts hX hC (m_X13_isKind kind) (lw_S q1452 q1453 q124 q1454) hdS_X13_isKind ⟨rfl, rfl⟩ ⟨Nat.le_of_ble_eq_true rfl, Nat.le_of_ble_eq_true rfl⟩ hl.1 rfl (Nat.le_of_ble_eq_true rfl) ⟨Nat.zero_le _, Nat.zero_le _⟩ dX13_as_8 (fun _ H locs hC => ?_)
    refine W.eq (g2 := F0 m 11 ls [.int (b2i (p_in kind 0 6))]) rfl ?_
    refine fb_ne (tgt := 21) hx hb dX13_as_11 (by decide) (fun c_4 => ?_) (fun c_4 => ?_)
    · refine lv_aload_n hx hb dX13_as_21 rfl (lv_at hl 0 rfl) ?_
      refine fg_get (C := RX13) (T := TX13) (N := 24) (ci := 0) (g := 0) (i := 0) (v := .ref (G.ad 0 1)) hx hb hown hts hX hC in_X13 rfl (min_ (by decide)) rfl 0 (by decide) q1310 (fun _ h => h) rfl dX13_as_22 ?_
      refine lv_bipush (v := 10) hx hb dX13_as_25 rfl ?_
      refine lv_iload_n hx hb dX13_as_27 rfl (lv_at hl 1 rfl) ?_
      refine lv_iadd hx hb dX13_as_28 ?_
      refine fg_iald (g := 0) (i := 1) (t0 := 0) (v := d (10 + ix spot)) hx hb hX hC (min_ (by decide)) rfl rfl (vinp 10 (vin_of c_2 10 (by decide)) (by decide) (by decide)) (congrArg d (ixp 10 (vin_of c_2 10 (by decide)) (by decide))) dX13_as_29 ?_
      refine lv_istore_n (lv' := [(3, .int (d (10 + ix spot))), (0, .ref (G.ad 0 0)), (1, .int spot), (2, .int kind)]) hx hb dX13_as_30 rfl hl (by decide) rfl (fun ls hl => ?_)
      refine lv_iload_n hx hb dX13_as_31 rfl (lv_at hl 0 rfl) ?_
      refine fi_ge (tgt := 42) hx hb dX13_as_32 (by decide) (fun c_5 => ?_) (fun c_5 => ?_)
      · refine lv_aload_n hx hb dX13_as_42 rfl (lv_at hl 1 rfl) ?_
        refine lv_iload_n hx hb dX13_as_43 rfl (lv_at hl 0 rfl) ?_
        refine lv_iconst (v := 0) hx hb dX13_as_44 rfl ?_
        refine fc_V (As := [.int (d (10 + ix spot)), .int 0]) (rest := []) hx hb hml hown hts hX hC (m_X13_strikeIs_0 (d (10 + ix spot)) (hold_in hw (vin_lt (vin_of c_2 10 (by decide))) c_5)) (lw_V q1475 q1477 qs64 q124 q1478) hdV_X13_strikeIs ⟨rfl, rfl⟩ ⟨Nat.le_of_ble_eq_true rfl, Nat.le_of_ble_eq_true rfl⟩ (fx_recv (g := 0) (i := 0) (ci := 0) (q := (RX13, TX13, 24)) hX hC (min_ (by decide)) rfl rfl) hl.1 rfl (Nat.le_of_ble_eq_true rfl) ⟨Nat.zero_le _, Nat.zero_le _⟩ dX13_as_45 (fun _ H locs hC => ?_)
        refine W.eq (g2 := F0 m 48 ls [.int (d (92 + 4 * ix (d (10 + ix spot))))]) rfl ?_
        refine lv_iload_n hx hb dX13_as_48 rfl (lv_at hl 3 rfl) ?_
        refine fc_S (As := [.int (d (92 + 4 * ix (d (10 + ix spot)))), .int kind]) (rest := []) hx hb hml hown hts hX hC (m_X13_isUnder (d (92 + 4 * ix (d (10 + ix spot)))) kind (hw.kind _ (vin_lt (hold_in hw (vin_lt (vin_of c_2 10 (by decide))) c_5)))) (lw_S q1823 q1824 q124 q1825) hdS_X13_isUnder ⟨rfl, rfl⟩ ⟨Nat.le_of_ble_eq_true rfl, Nat.le_of_ble_eq_true rfl⟩ hl.1 rfl (Nat.le_of_ble_eq_true rfl) ⟨Nat.zero_le _, Nat.zero_le _⟩ dX13_as_49 (fun _ H locs hC => ?_)
        refine W.eq (g2 := F0 m 52 ls [.int (b2i (p_under (d (92 + 4 * ix (d (10 + ix spot)))) kind))]) rfl ?_
        refine fb_eq (tgt := 59) hx hb dX13_as_52 (by decide) (fun c_8 => ?_) (fun c_8 => ?_)
        · refine lv_aload_n hx hb dX13_as_59 rfl (lv_at hl 1 rfl) ?_
          refine lv_ldcw (v := (-1000003)) hx hb hown (hts _ q1829) dX13_as_60 ?_
          refine fc_V (As := [.int (-1000003)]) (rest := []) hx hb hml hown hts hX hC (m_X13_finding 2 (vin_b rfl)) (lw_V q1404 q1406 qs56 q124 q1407) hdV_X13_finding ⟨rfl, rfl⟩ ⟨Nat.le_of_ble_eq_true rfl, Nat.le_of_ble_eq_true rfl⟩ (fx_recv (g := 0) (i := 0) (ci := 0) (q := (RX13, TX13, 24)) hX hC (min_ (by decide)) rfl rfl) hl.1 rfl (Nat.le_of_ble_eq_true rfl) ⟨Nat.zero_le _, Nat.zero_le _⟩ dX13_as_63 (fun _ H locs hC => ?_)
          refine W.eq (g2 := F0 m 66 ls [.int (-1000003)]) rfl ?_
          have hs : s_as d fd spot kind = (((-1000003), p_find fd 2) : Int32 × Row) := by rw [s_as, if_pos ⟨c_2, c_4⟩, if_neg (fun z => c_5 ((hold_neg hw (vin_lt (vin_of c_2 10 (by decide)))).mpr z)), if_neg c_8]
          exact fr_i hx hb hr hlocks hX hC () (congrArg (fun z => some (Value.int z)) (t2_1 hs)) (congrArg (fun z => mct G (mpg d kp as bf sc z tp it ws sz nu mv)) (t2_2 hs)).symm dX13_as_66
        · refine lv_iload_n hx hb dX13_as_55 rfl (lv_at hl 0 rfl) ?_
          refine lv_goto (tgt := 66) hx hb dX13_as_56 (by decide) ?_
          have hs : s_as d fd spot kind = ((d (10 + ix spot), fd) : Int32 × Row) := by rw [s_as, if_pos ⟨c_2, c_4⟩, if_neg (fun z => c_5 ((hold_neg hw (vin_lt (vin_of c_2 10 (by decide)))).mpr z)), if_pos c_8]
          exact fr_i hx hb hr hlocks hX hC () (congrArg (fun z => some (Value.int z)) (t2_1 hs)) (congrArg (fun z => mct G (mpg d kp as bf sc z tp it ws sz nu mv)) (t2_2 hs)).symm dX13_as_66
      · refine lv_aload_n hx hb dX13_as_35 rfl (lv_at hl 1 rfl) ?_
        refine lv_ldc (v := (-1000006)) hx hb hown (hts _ q1694) dX13_as_36 ?_
        refine fc_V (As := [.int (-1000006)]) (rest := []) hx hb hml hown hts hX hC (m_X13_finding 5 (vin_b rfl)) (lw_V q1404 q1406 qs56 q124 q1407) hdV_X13_finding ⟨rfl, rfl⟩ ⟨Nat.le_of_ble_eq_true rfl, Nat.le_of_ble_eq_true rfl⟩ (fx_recv (g := 0) (i := 0) (ci := 0) (q := (RX13, TX13, 24)) hX hC (min_ (by decide)) rfl rfl) hl.1 rfl (Nat.le_of_ble_eq_true rfl) ⟨Nat.zero_le _, Nat.zero_le _⟩ dX13_as_38 (fun _ H locs hC => ?_)
        refine W.eq (g2 := F0 m 41 ls [.int (-1000006)]) rfl ?_
        have hs : s_as d fd spot kind = (((-1000006), p_find fd 5) : Int32 × Row) := by rw [s_as, if_pos ⟨c_2, c_4⟩, if_pos ((hold_neg hw (vin_lt (vin_of c_2 10 (by decide)))).mp c_5)]
        exact fr_i hx hb hr hlocks hX hC () (congrArg (fun z => some (Value.int z)) (t2_1 hs)) (congrArg (fun z => mct G (mpg d kp as bf sc z tp it ws sz nu mv)) (t2_2 hs)).symm dX13_as_41
    · refine lv_aload_n hx hb dX13_as_14 rfl (lv_at hl 0 rfl) ?_
      refine lv_ldc (v := (-1000001)) hx hb hown (hts _ q1403) dX13_as_15 ?_
      refine fc_V (As := [.int (-1000001)]) (rest := []) hx hb hml hown hts hX hC (m_X13_finding 0 (vin_b rfl)) (lw_V q1404 q1406 qs56 q124 q1407) hdV_X13_finding ⟨rfl, rfl⟩ ⟨Nat.le_of_ble_eq_true rfl, Nat.le_of_ble_eq_true rfl⟩ (fx_recv (g := 0) (i := 0) (ci := 0) (q := (RX13, TX13, 24)) hX hC (min_ (by decide)) rfl rfl) hl.1 rfl (Nat.le_of_ble_eq_true rfl) ⟨Nat.zero_le _, Nat.zero_le _⟩ dX13_as_17 (fun _ H locs hC => ?_)
      refine W.eq (g2 := F0 m 20 ls [.int (-1000001)]) rfl ?_
      have hs : s_as d fd spot kind = (((-1000001), p_find fd 0) : Int32 × Row) := by rw [s_as, if_neg (fun z => c_4 z.2)]
      exact fr_i hx hb hr hlocks hX hC () (congrArg (fun z => some (Value.int z)) (t2_1 hs)) (congrArg (fun z => mct G (mpg d kp as bf sc z tp it ws sz nu mv)) (t2_2 hs)).symm dX13_as_20
set_option maxRecDepth 100000 in
theorem m_X13_count {l : Launch} {G : Gm} {d kp as bf sc fd tp it ws sz nu mv : Row} (hw : WF d) (what : Int32) : Cm l yX13_count (ws_ yX13_count cX13_count 4 (some .int)) ({ frames := 6, cells := 0, slots := 0, locals := 130 }) (mF G) [.ref (G.ad 0 0), .int what] (mct G (mpg d kp as bf sc fd tp it ws sz nu mv)) (fun u : Row => some (.int ((s_count d fd (sc 3) what).1))) (fun u => mct G (mpg d kp as u sc ((s_count d fd (sc 3) what).2) tp it ws sz nu mv)) := by
  refine Cm.start (by decide) (Nat.le_of_ble_eq_true rfl) ?_
  intro p e s m below meth c hf hX hC ls hl
  obtain ⟨hx, hb, hr, hml, hown, hts, hlocks⟩ := hf
  have hl : lv_has ls 4 [(0, .ref (G.ad 0 0)), (1, .int what)] := hl
  have hown : s.vm.findClass "OwlEarsModel" = some m.cls := hown
  refine lv_iconst (v := 0) hx hb dX13_count_0 rfl ?_
  refine lv_istore_n (lv' := [(2, .int 0), (0, .ref (G.ad 0 0)), (1, .int what)]) hx hb dX13_count_1 rfl hl (by decide) rfl (fun ls hl => ?_)
  refine lv_iload_n hx hb dX13_count_2 rfl (lv_at hl 2 rfl) ?_
  by_cases c_1 : what = 0
  · refine lv_tableIn (off := 45) (tgt := 48) hx hb dX13_count_3 (by rw [c_1]; decide) (by rw [c_1]; decide) (by rw [c_1]; rfl) (by decide) ?_
    refine lv_aload_n hx hb dX13_count_48 rfl (lv_at hl 1 rfl) ?_
    refine fg_get (C := RX13) (T := TX13) (N := 24) (ci := 0) (g := 0) (i := 0) (v := .ref (G.ad 0 1)) hx hb hown hts hX hC in_X13 rfl (min_ (by decide)) rfl 0 (by decide) q1310 (fun _ h => h) rfl dX13_count_49 ?_
    refine lv_iconst (v := 0) hx hb dX13_count_52 rfl ?_
    refine fg_iald (g := 0) (i := 1) (t0 := 0) (v := d 0) hx hb hX hC (min_ (by decide)) rfl rfl (vin_b rfl) rfl dX13_count_53 ?_
    have hs : s_count d fd (sc 3) what = ((d 0, fd) : Int32 × Row) := by simp [s_count, c_1]
    exact fr_i hx hb hr hlocks hX hC bf (congrArg (fun z => some (Value.int z)) (t2_1 hs)) (congrArg (fun z => mct G (mpg d kp as bf sc z tp it ws sz nu mv)) (t2_2 hs)).symm dX13_count_54
  by_cases c_2 : what = 1
  · refine lv_tableIn (off := 52) (tgt := 55) hx hb dX13_count_3 (by rw [c_2]; decide) (by rw [c_2]; decide) (by rw [c_2]; rfl) (by decide) ?_
    refine lv_aload_n hx hb dX13_count_55 rfl (lv_at hl 1 rfl) ?_
    refine fg_get (C := RX13) (T := TX13) (N := 24) (ci := 0) (g := 0) (i := 0) (v := .ref (G.ad 0 1)) hx hb hown hts hX hC in_X13 rfl (min_ (by decide)) rfl 0 (by decide) q1310 (fun _ h => h) rfl dX13_count_56 ?_
    refine lv_iconst (v := 1) hx hb dX13_count_59 rfl ?_
    refine fg_iald (g := 0) (i := 1) (t0 := 0) (v := d 1) hx hb hX hC (min_ (by decide)) rfl rfl (vin_b rfl) rfl dX13_count_60 ?_
    have hs : s_count d fd (sc 3) what = ((d 1, fd) : Int32 × Row) := by simp [s_count, c_1, c_2]
    exact fr_i hx hb hr hlocks hX hC bf (congrArg (fun z => some (Value.int z)) (t2_1 hs)) (congrArg (fun z => mct G (mpg d kp as bf sc z tp it ws sz nu mv)) (t2_2 hs)).symm dX13_count_61
  by_cases c_3 : what = 2
  · refine lv_tableIn (off := 59) (tgt := 62) hx hb dX13_count_3 (by rw [c_3]; decide) (by rw [c_3]; decide) (by rw [c_3]; rfl) (by decide) ?_
    refine lv_aload_n hx hb dX13_count_62 rfl (lv_at hl 1 rfl) ?_
    refine fc_V (As := []) (rest := []) hx hb hml hown hts hX hC (m_X13_having hw) (lw_V q1554 q1556 qs76 q124 q1557) hdV_X13_having ⟨rfl, rfl⟩ ⟨Nat.le_of_ble_eq_true rfl, Nat.le_of_ble_eq_true rfl⟩ (fx_recv (g := 0) (i := 0) (ci := 0) (q := (RX13, TX13, 24)) hX hC (min_ (by decide)) rfl rfl) hl.1 rfl (Nat.le_of_ble_eq_true rfl) ⟨Nat.zero_le _, Nat.zero_le _⟩ dX13_count_63 (fun u_4 H locs hC => ?_)
    refine W.eq (g2 := F0 m 66 ls [.int (p_having d)]) rfl ?_
    rw [show p_having d = nI (p_set (fun k => p_has d (nI k)) (ix (d 1))) from p_orr_set (fun k => p_has d (nI k)) (ix (d 1)) (by have := vin_lt hw.many; omega)]
    refine fc_S (As := [.int (nI (p_set (fun k => p_has d (nI k)) (ix (d 1))))]) (rest := []) hx hb hml hown hts hX hC (m_X13_bits (p_set (fun k => p_has d (nI k)) (ix (d 1))) (show p_set _ _ < 2 ^ 10 from Nat.lt_of_lt_of_le (p_set_lt _ _) (Nat.pow_le_pow_right (by decide) (by have := vin_lt hw.many; omega)))) (lw_S q1642 q1643 q124 q1644) hdS_X13_bits ⟨rfl, rfl⟩ ⟨Nat.le_of_ble_eq_true rfl, Nat.le_of_ble_eq_true rfl⟩ hl.1 rfl (Nat.le_of_ble_eq_true rfl) ⟨Nat.zero_le _, Nat.zero_le _⟩ dX13_count_66 (fun _ H locs hC => ?_)
    refine W.eq (g2 := F0 m 69 ls [.int (nI (p_pop (p_set (fun k => p_has d (nI k)) (ix (d 1)))))]) rfl ?_
    have hs : s_count d fd (sc 3) what = ((nI (p_pop (p_set (fun k => p_has d (nI k)) (ix (d 1)))), fd) : Int32 × Row) := by simp [s_count, c_1, c_2, c_3]
    exact fr_i hx hb hr hlocks hX hC u_4 (congrArg (fun z => some (Value.int z)) (t2_1 hs)) (congrArg (fun z => mct G (mpg d kp as u_4 sc z tp it ws sz nu mv)) (t2_2 hs)).symm dX13_count_69
  by_cases c_5 : what = 3
  · refine lv_tableIn (off := 67) (tgt := 70) hx hb dX13_count_3 (by rw [c_5]; decide) (by rw [c_5]; decide) (by rw [c_5]; rfl) (by decide) ?_
    refine lv_aload_n hx hb dX13_count_70 rfl (lv_at hl 1 rfl) ?_
    refine fc_V (As := []) (rest := []) hx hb hml hown hts hX hC (m_X13_hadAll hw) (lw_V q1558 q1560 qs77 q124 q1561) hdV_X13_hadAll ⟨rfl, rfl⟩ ⟨Nat.le_of_ble_eq_true rfl, Nat.le_of_ble_eq_true rfl⟩ (fx_recv (g := 0) (i := 0) (ci := 0) (q := (RX13, TX13, 24)) hX hC (min_ (by decide)) rfl rfl) hl.1 rfl (Nat.le_of_ble_eq_true rfl) ⟨Nat.zero_le _, Nat.zero_le _⟩ dX13_count_71 (fun _ H locs hC => ?_)
    refine W.eq (g2 := F0 m 74 ls [.int (p_sum (fun k => d (95 + 4 * k)) (ix (d 1)))]) rfl ?_
    have hs : s_count d fd (sc 3) what = ((p_sum (fun k => d (95 + 4 * k)) (ix (d 1)), fd) : Int32 × Row) := by simp [s_count, c_1, c_2, c_3, c_5]
    exact fr_i hx hb hr hlocks hX hC bf (congrArg (fun z => some (Value.int z)) (t2_1 hs)) (congrArg (fun z => mct G (mpg d kp as bf sc z tp it ws sz nu mv)) (t2_2 hs)).symm dX13_count_74
  by_cases c_7 : what = 4
  · refine lv_tableIn (off := 72) (tgt := 75) hx hb dX13_count_3 (by rw [c_7]; decide) (by rw [c_7]; decide) (by rw [c_7]; rfl) (by decide) ?_
    refine lv_aload_n hx hb dX13_count_75 rfl (lv_at hl 1 rfl) ?_
    refine fc_V (As := []) (rest := []) hx hb hml hown hts hX hC (m_X13_snowAll) (lw_V q1562 q1564 qs78 q124 q1565) hdV_X13_snowAll ⟨rfl, rfl⟩ ⟨Nat.le_of_ble_eq_true rfl, Nat.le_of_ble_eq_true rfl⟩ (fx_recv (g := 0) (i := 0) (ci := 0) (q := (RX13, TX13, 24)) hX hC (min_ (by decide)) rfl rfl) hl.1 rfl (Nat.le_of_ble_eq_true rfl) ⟨Nat.zero_le _, Nat.zero_le _⟩ dX13_count_76 (fun _ H locs hC => ?_)
    refine W.eq (g2 := F0 m 79 ls [.int (p_sum (fun k => d (20 + k)) 36)]) rfl ?_
    have hs : s_count d fd (sc 3) what = ((p_sum (fun k => d (20 + k)) 36, fd) : Int32 × Row) := by simp [s_count, c_1, c_2, c_3, c_5, c_7]
    exact fr_i hx hb hr hlocks hX hC bf (congrArg (fun z => some (Value.int z)) (t2_1 hs)) (congrArg (fun z => mct G (mpg d kp as bf sc z tp it ws sz nu mv)) (t2_2 hs)).symm dX13_count_79
  by_cases c_9 : what = 5
  · refine lv_tableIn (off := 77) (tgt := 80) hx hb dX13_count_3 (by rw [c_9]; decide) (by rw [c_9]; decide) (by rw [c_9]; rfl) (by decide) ?_
    refine lv_aload_n hx hb dX13_count_80 rfl (lv_at hl 1 rfl) ?_
    refine fg_get (C := RX13) (T := TX13) (N := 24) (ci := 0) (g := 0) (i := 0) (v := .int (sc 3)) hx hb hown hts hX hC in_X13 rfl (min_ (by decide)) rfl 9 (by decide) q1319 (fun _ h => h) rfl dX13_count_81 ?_
    have hs : s_count d fd (sc 3) what = ((sc 3, fd) : Int32 × Row) := by simp [s_count, c_1, c_2, c_3, c_5, c_7, c_9]
    exact fr_i hx hb hr hlocks hX hC bf (congrArg (fun z => some (Value.int z)) (t2_1 hs)) (congrArg (fun z => mct G (mpg d kp as bf sc z tp it ws sz nu mv)) (t2_2 hs)).symm dX13_count_84
  by_cases c_10 : what = 6
  · refine lv_tableIn (off := 82) (tgt := 85) hx hb dX13_count_3 (by rw [c_10]; decide) (by rw [c_10]; decide) (by rw [c_10]; rfl) (by decide) ?_
    refine lv_aload_n hx hb dX13_count_85 rfl (lv_at hl 1 rfl) ?_
    refine fg_get (C := RX13) (T := TX13) (N := 24) (ci := 0) (g := 0) (i := 0) (v := .ref (G.ad 0 1)) hx hb hown hts hX hC in_X13 rfl (min_ (by decide)) rfl 0 (by decide) q1310 (fun _ h => h) rfl dX13_count_86 ?_
    refine lv_iconst (v := 2) hx hb dX13_count_89 rfl ?_
    refine fg_iald (g := 0) (i := 1) (t0 := 0) (v := d 2) hx hb hX hC (min_ (by decide)) rfl rfl (vin_b rfl) rfl dX13_count_90 ?_
    have hs : s_count d fd (sc 3) what = ((d 2, fd) : Int32 × Row) := by simp [s_count, c_1, c_2, c_3, c_5, c_7, c_9, c_10]
    exact fr_i hx hb hr hlocks hX hC bf (congrArg (fun z => some (Value.int z)) (t2_1 hs)) (congrArg (fun z => mct G (mpg d kp as bf sc z tp it ws sz nu mv)) (t2_2 hs)).symm dX13_count_91
  by_cases c_11 : what = 7
  · refine lv_tableIn (off := 89) (tgt := 92) hx hb dX13_count_3 (by rw [c_11]; decide) (by rw [c_11]; decide) (by rw [c_11]; rfl) (by decide) ?_
    refine lv_iconst (v := 0) hx hb dX13_count_92 rfl ?_
    refine lv_istore_n (lv' := [(3, .int 0), (2, .int 0), (0, .ref (G.ad 0 0)), (1, .int what)]) hx hb dX13_count_93 rfl hl (by decide) rfl (fun ls hl => ?_)
    have L_12 : ∀ (k12 i12 : Nat), i12 + k12 = 10 → ∀ (H : Heap) (locs : List Loc), fC (mF G) (mct G (mpg d kp as bf sc fd tp it ws sz nu mv)) s.heap H locs → ∀ ls : Array Slot, lv_has ls 4 [(0, .ref (G.ad 0 0)), (2, .int (p_sum (fun k => b2i (¬ d (10 + k) < 0)) i12)), (3, .int (nI i12))] → WG p l e ({ frames := 6, cells := 0, slots := 0, locals := 130 }) s m (([.ref (G.ad 0 0), .int what] : List Value).toArray) below meth c H locs (mF G) (fun u : Row => some (.int ((s_count d fd (sc 3) what).1))) (fun u => mct G (mpg d kp as u sc ((s_count d fd (sc 3) what).2) tp it ws sz nu mv)) (F0 m 94 ls []) := by
      intro k12
      induction k12 with
      | zero =>
        intro i12 hi12 H locs hC ls hl
        obtain rfl : i12 = 10 := by omega
        refine lv_iload_n hx hb dX13_count_94 rfl (lv_at hl 2 rfl) ?_
        refine lv_bipush (v := 10) hx hb dX13_count_95 rfl ?_
        refine fj_ge (tgt := 126) hx hb dX13_count_97 (by decide) (fun _ => ?_) (fun z_13 => absurd z_13 (nlt_ix (n := 10)))
        refine lv_iload_n hx hb dX13_count_126 rfl (lv_at hl 1 rfl) ?_
        have hs : s_count d fd (sc 3) what = ((p_sum (fun k => b2i (¬ d (10 + k) < 0)) 10, fd) : Int32 × Row) := by have hh := holding_eq hw; simp [s_count, c_1, c_2, c_3, c_5, c_7, c_9, c_10, c_11, hh]
        exact fr_i hx hb hr hlocks hX hC bf (congrArg (fun z => some (Value.int z)) (t2_1 hs)) (congrArg (fun z => mct G (mpg d kp as bf sc z tp it ws sz nu mv)) (t2_2 hs)).symm dX13_count_127
      | succ k12 ih12 =>
        intro i12 hi12 H locs hC ls hl
        refine lv_iload_n hx hb dX13_count_94 rfl (lv_at hl 2 rfl) ?_
        refine lv_bipush (v := 10) hx hb dX13_count_95 rfl ?_
        refine fj_ge (tgt := 126) hx hb dX13_count_97 (by decide) (fun z_14 => absurd (lt_ix (n := 10) (show i12 < 10 by omega)) z_14) (fun _ => ?_)
        refine lv_iload_n hx hb dX13_count_100 rfl (lv_at hl 1 rfl) ?_
        refine lv_aload_n hx hb dX13_count_101 rfl (lv_at hl 0 rfl) ?_
        refine fg_get (C := RX13) (T := TX13) (N := 24) (ci := 0) (g := 0) (i := 0) (v := .ref (G.ad 0 1)) hx hb hown hts hX hC in_X13 rfl (min_ (by decide)) rfl 0 (by decide) q1310 (fun _ h => h) rfl dX13_count_102 ?_
        refine lv_bipush (v := 10) hx hb dX13_count_105 rfl ?_
        refine lv_iload_n hx hb dX13_count_107 rfl (lv_at hl 2 rfl) ?_
        refine lv_iadd hx hb dX13_count_108 ?_
        refine fg_iald (g := 0) (i := 1) (t0 := 0) (v := d (10 + i12)) hx hb hX hC (min_ (by decide)) rfl rfl (vinp 10 (show vp_in (nI i12) 114 from vp_in_nI (show i12 < 114 by omega) (by decide)) (by decide) (by decide)) (congrArg d ((congrArg ix (nI_add 10 i12)).trans (nI_clamp (by omega)))) dX13_count_109 ?_
        refine fw_joinb (C := ¬ ((d (10 + i12)) < 0)) (pcj := 118) (ls := ls) (rest := [.int (p_sum (fun k => b2i (¬ d (10 + k) < 0)) i12)]) (fun jb ja => ?_) ?_
        · refine fi_ge (tgt := 117) hx hb dX13_count_110 (by decide) (fun c_15 => ?_) (fun c_15 => ?_)
          · refine lv_iconst (v := 1) hx hb dX13_count_117 rfl ?_
            exact jb c_15
          · refine lv_iconst (v := 0) hx hb dX13_count_113 rfl ?_
            refine lv_goto (tgt := 118) hx hb dX13_count_114 (by decide) ?_
            exact ja (fun z => z c_15)
        refine lv_iadd hx hb dX13_count_118 ?_
        refine lv_istore_n (lv' := [(2, .int ((p_sum (fun k => b2i (¬ d (10 + k) < 0)) i12) + (b2i (¬ ((d (10 + i12)) < 0))))), (0, .ref (G.ad 0 0)), (3, .int (nI i12))]) hx hb dX13_count_119 rfl hl (by decide) rfl (fun ls hl => ?_)
        refine lv_iinc (v := nI (i12 + 1)) (lv' := [(3, .int (nI (i12 + 1))), (2, .int ((p_sum (fun k => b2i (¬ d (10 + k) < 0)) i12) + (b2i (¬ ((d (10 + i12)) < 0))))), (0, .ref (G.ad 0 0))]) hx hb dX13_count_120 hl (k := 2) rfl (nI_1 _) (by decide) rfl (fun ls hl => ?_)
        refine lv_goto (tgt := 94) hx hb dX13_count_123 (by decide) ?_
        exact ih12 (i12 + 1) (by omega) _ _ hC ls (lv_sub hl [2, 1, 0] rfl)
    exact L_12 10 0 (by omega) _ _ hC ls (lv_sub hl [2, 1, 0] rfl)
  refine lv_tableOut (tgt := 128) hx hb dX13_count_3 (tabo 0 8 (by decide) (fun k hk => match k, hk with | 0, _ => c_1 | 1, _ => c_2 | 2, _ => c_3 | 3, _ => c_5 | 4, _ => c_7 | 5, _ => c_9 | 6, _ => c_10 | 7, _ => c_11) rfl) (by decide) ?_
  refine lv_aload_n hx hb dX13_count_128 rfl (lv_at hl 1 rfl) ?_
  refine lv_ldc (v := (-1000001)) hx hb hown (hts _ q1403) dX13_count_129 ?_
  refine fc_V (As := [.int (-1000001)]) (rest := []) hx hb hml hown hts hX hC (m_X13_finding 0 (vin_b rfl)) (lw_V q1404 q1406 qs56 q124 q1407) hdV_X13_finding ⟨rfl, rfl⟩ ⟨Nat.le_of_ble_eq_true rfl, Nat.le_of_ble_eq_true rfl⟩ (fx_recv (g := 0) (i := 0) (ci := 0) (q := (RX13, TX13, 24)) hX hC (min_ (by decide)) rfl rfl) hl.1 rfl (Nat.le_of_ble_eq_true rfl) ⟨Nat.zero_le _, Nat.zero_le _⟩ dX13_count_131 (fun _ H locs hC => ?_)
  refine W.eq (g2 := F0 m 134 ls [.int (-1000001)]) rfl ?_
  have hs : s_count d fd (sc 3) what = (((-1000001), p_find fd 0) : Int32 × Row) := by simp [s_count, c_1, c_2, c_3, c_5, c_7, c_9, c_10, c_11]
  exact fr_i hx hb hr hlocks hX hC bf (congrArg (fun z => some (Value.int z)) (t2_1 hs)) (congrArg (fun z => mct G (mpg d kp as bf sc z tp it ws sz nu mv)) (t2_2 hs)).symm dX13_count_134
set_option maxRecDepth 100000 in
theorem m_X13_status {l : Launch} {G : Gm} {d kp as bf sc fd tp it ws sz nu mv : Row} (which : Int32) : Cm l yX13_status (ws_ yX13_status cX13_status 2 (some .int)) ({ frames := 1, cells := 0, slots := 0, locals := 22 }) (mF G) [.ref (G.ad 0 0), .int which] (mct G (mpg d kp as bf sc fd tp it ws sz nu mv)) (fun _ : Unit => some (.int ((s_status fd which).1))) (fun _ => mct G (mpg d kp as bf sc ((s_status fd which).2) tp it ws sz nu mv)) := by
  refine Cm.start (by decide) (Nat.le_of_ble_eq_true rfl) ?_
  intro p e s m below meth c hf hX hC ls hl
  obtain ⟨hx, hb, hr, hml, hown, hts, hlocks⟩ := hf
  have hl : lv_has ls 2 [(0, .ref (G.ad 0 0)), (1, .int which)] := hl
  have hown : s.vm.findClass "OwlEarsModel" = some m.cls := hown
  refine lv_iload_n hx hb dX13_status_0 rfl (lv_at hl 1 rfl) ?_
  refine lv_iconst (v := (-1)) hx hb dX13_status_1 rfl ?_
  refine lv_bipush (v := 6) hx hb dX13_status_2 rfl ?_
  refine fc_S (As := [.int which, .int (-1), .int 6]) (rest := []) hx hb hml hown hts hX hC (m_X13_within which (-1) 6) (lw_S q1390 q1391 q124 q1392) hdS_X13_within ⟨rfl, rfl⟩ ⟨Nat.le_of_ble_eq_true rfl, Nat.le_of_ble_eq_true rfl⟩ hl.1 rfl (Nat.le_of_ble_eq_true rfl) ⟨Nat.zero_le _, Nat.zero_le _⟩ dX13_status_4 (fun _ H locs hC => ?_)
  refine W.eq (g2 := F0 m 7 ls [.int (b2i (p_in which (-1) 6))]) rfl ?_
  refine fb_eq (tgt := 21) hx hb dX13_status_7 (by decide) (fun c_2 => ?_) (fun c_2 => ?_)
  · refine lv_aload_n hx hb dX13_status_21 rfl (lv_at hl 0 rfl) ?_
    refine lv_ldc (v := (-1000001)) hx hb hown (hts _ q1403) dX13_status_22 ?_
    refine fc_V (As := [.int (-1000001)]) (rest := []) hx hb hml hown hts hX hC (m_X13_finding 0 (vin_b rfl)) (lw_V q1404 q1406 qs56 q124 q1407) hdV_X13_finding ⟨rfl, rfl⟩ ⟨Nat.le_of_ble_eq_true rfl, Nat.le_of_ble_eq_true rfl⟩ (fx_recv (g := 0) (i := 0) (ci := 0) (q := (RX13, TX13, 24)) hX hC (min_ (by decide)) rfl rfl) hl.1 rfl (Nat.le_of_ble_eq_true rfl) ⟨Nat.zero_le _, Nat.zero_le _⟩ dX13_status_24 (fun _ H locs hC => ?_)
    refine W.eq (g2 := F0 m 27 ls [.int (-1000001)]) rfl ?_
    have hs : s_status fd which = (((-1000001), p_find fd 0) : Int32 × Row) := by rw [s_status, if_neg c_2]
    exact fr_i hx hb hr hlocks hX hC () (congrArg (fun z => some (Value.int z)) (t2_1 hs)) (congrArg (fun z => mct G (mpg d kp as bf sc z tp it ws sz nu mv)) (t2_2 hs)).symm dX13_status_27
  · refine lv_aload_n hx hb dX13_status_10 rfl (lv_at hl 0 rfl) ?_
    refine fg_get (C := RX13) (T := TX13) (N := 24) (ci := 0) (g := 0) (i := 0) (v := .ref (G.ad 0 5)) hx hb hown hts hX hC in_X13 rfl (min_ (by decide)) rfl 5 (by decide) q1315 (fun _ h => h) rfl dX13_status_11 ?_
    refine lv_iload_n hx hb dX13_status_14 rfl (lv_at hl 1 rfl) ?_
    refine lv_iconst (v := 1) hx hb dX13_status_15 rfl ?_
    refine lv_iadd hx hb dX13_status_16 ?_
    refine fg_iald (g := 0) (i := 5) (t0 := 0) (v := (mf fd) (ix (which + 1))) hx hb hX hC (min_ (by decide)) rfl rfl (mf_at (fd := fd) c_2).1 rfl dX13_status_17 ?_
    refine lv_goto (tgt := 27) hx hb dX13_status_18 (by decide) ?_
    have hs : s_status fd which = (((mf fd) (ix (which + 1)), fd) : Int32 × Row) := by rw [s_status, if_pos c_2, (mf_at c_2).2]
    exact fr_i hx hb hr hlocks hX hC () (congrArg (fun z => some (Value.int z)) (t2_1 hs)) (congrArg (fun z => mct G (mpg d kp as bf sc z tp it ws sz nu mv)) (t2_2 hs)).symm dX13_status_27
set_option maxRecDepth 100000 in
theorem m_X13_feed {l : Launch} {G : Gm} {d kp as bf sc fd tp it ws sz nu mv : Row} (b n : Int32) (ht : vp_in (sc 3) 121) : Cm l yX13_feed (ws_ yX13_feed cX13_feed 4 (some .int)) ({ frames := 1, cells := 0, slots := 0, locals := 22 }) (mF G) [.ref (G.ad 0 0), .int b, .int n] (mct G (mpg d kp as bf sc fd tp it ws sz nu mv)) (fun _ : Unit => some (.int ((s_feed fd tp (sc 3) b n).1))) (fun _ => mct G (mpg d kp as bf (upd sc 3 ((s_feed fd tp (sc 3) b n).2.1)) ((s_feed fd tp (sc 3) b n).2.2.2) ((s_feed fd tp (sc 3) b n).2.2.1) it ws sz nu mv)) := by
  refine Cm.start (by decide) (Nat.le_of_ble_eq_true rfl) ?_
  intro p e s m below meth c hf hX hC ls hl
  obtain ⟨hx, hb, hr, hml, hown, hts, hlocks⟩ := hf
  have hl : lv_has ls 4 [(0, .ref (G.ad 0 0)), (1, .int b), (2, .int n)] := hl
  have hown : s.vm.findClass "OwlEarsModel" = some m.cls := hown
  refine lv_iload_n hx hb dX13_feed_0 rfl (lv_at hl 2 rfl) ?_
  refine lv_iconst (v := 1) hx hb dX13_feed_1 rfl ?_
  refine lv_iconst (v := 4) hx hb dX13_feed_2 rfl ?_
  refine fc_S (As := [.int n, .int 1, .int 4]) (rest := []) hx hb hml hown hts hX hC (m_X13_within n 1 4) (lw_S q1390 q1391 q124 q1392) hdS_X13_within ⟨rfl, rfl⟩ ⟨Nat.le_of_ble_eq_true rfl, Nat.le_of_ble_eq_true rfl⟩ hl.1 rfl (Nat.le_of_ble_eq_true rfl) ⟨Nat.zero_le _, Nat.zero_le _⟩ dX13_feed_3 (fun _ H locs hC => ?_)
  refine W.eq (g2 := F0 m 6 ls [.int (b2i (p_in n 1 4))]) rfl ?_
  refine fb_ne (tgt := 16) hx hb dX13_feed_6 (by decide) (fun c_2 => ?_) (fun c_2 => ?_)
  · refine lv_aload_n hx hb dX13_feed_16 rfl (lv_at hl 0 rfl) ?_
    refine fg_get (C := RX13) (T := TX13) (N := 24) (ci := 0) (g := 0) (i := 0) (v := .int (sc 3)) hx hb hown hts hX hC in_X13 rfl (min_ (by decide)) rfl 9 (by decide) q1319 (fun _ h => h) rfl dX13_feed_17 ?_
    refine lv_iload_n hx hb dX13_feed_20 rfl (lv_at hl 2 rfl) ?_
    refine lv_iadd hx hb dX13_feed_21 ?_
    refine lv_bipush (v := 120) hx hb dX13_feed_22 rfl ?_
    refine fj_le (tgt := 34) hx hb dX13_feed_24 (by decide) (fun c_3 => ?_) (fun c_3 => ?_)
    · rcases n1_4 c_2 with qn | qn | qn | qn
      · subst qn
        refine lv_iload_n hx hb dX13_feed_34 rfl (lv_at hl 2 rfl) ?_
        refine lv_iconst (v := 1) hx hb dX13_feed_35 rfl ?_
        refine lv_isub hx hb dX13_feed_36 ?_
        refine W.eq (g2 := F0 m 37 ls [.int 0]) rfl ?_
        refine lv_istore_n (lv' := [(3, .int 0), (0, .ref (G.ad 0 0)), (1, .int b), (2, .int 1)]) hx hb dX13_feed_37 rfl hl (by decide) rfl (fun ls hl => ?_)
        refine lv_iload_n hx hb dX13_feed_38 rfl (lv_at hl 0 rfl) ?_
        refine lv_if_lt (tgt := 77) hx hb dX13_feed_39 (by decide) (fun z_4 => absurd z_4 (by decide)) (fun _ => ?_)
        refine lv_aload_n hx hb dX13_feed_42 rfl (lv_at hl 1 rfl) ?_
        refine fg_get (C := RX13) (T := TX13) (N := 24) (ci := 0) (g := 0) (i := 0) (v := .ref (G.ad 0 6)) hx hb hown hts hX hC in_X13 rfl (min_ (by decide)) rfl 8 (by decide) q1318 (fun _ h => h) rfl dX13_feed_43 ?_
        refine lv_aload_n hx hb dX13_feed_46 rfl (lv_at hl 1 rfl) ?_
        refine fg_get (C := RX13) (T := TX13) (N := 24) (ci := 0) (g := 0) (i := 0) (v := .int (sc 3)) hx hb hown hts hX hC in_X13 rfl (min_ (by decide)) rfl 9 (by decide) q1319 (fun _ h => h) rfl dX13_feed_47 ?_
        refine lv_iload_n hx hb dX13_feed_50 rfl (lv_at hl 2 rfl) ?_
        refine lv_bipush (v := 8) hx hb dX13_feed_51 rfl ?_
        refine lv_iload_n hx hb dX13_feed_53 rfl (lv_at hl 0 rfl) ?_
        refine lv_imul hx hb dX13_feed_54 ?_
        refine W.eq (g2 := F0 m 55 ls [.int 0, .int b, .int (sc 3), .ref (G.ad 0 6)]) rfl ?_
        refine lv_ishr hx hb dX13_feed_55 ?_
        refine lv_sipush (v := 255) hx hb dX13_feed_56 rfl ?_
        refine lv_iand hx hb dX13_feed_59 ?_
        refine fg_iast (g := 0) (i := 6) (t0 := 0) hx hb hX hC (min_ (by decide)) rfl rfl (show vp_in (sc 3) 120 from (Int32.add_zero (sc 3)) ▸ (tp_at (n := 1) (m := 0) ht c_3 (by decide) (by decide)).2) (mct G (mpg d kp as bf sc fd (upd tp (ix (sc 3)) (vp_nar .byte (b >>> (0 &&& 31)))) it ws sz nu mv)) (mu mp6 (mtp rfl)) dX13_feed_60 (fun H locs hC => ?_)
        refine lv_aload_n hx hb dX13_feed_61 rfl (lv_at hl 1 rfl) ?_
        refine lv_dup hx hb dX13_feed_62 rfl ?_
        refine fg_get (C := RX13) (T := TX13) (N := 24) (ci := 0) (g := 0) (i := 0) (v := .int (sc 3)) hx hb hown hts hX hC in_X13 rfl (min_ (by decide)) rfl 9 (by decide) q1319 (fun _ h => h) rfl dX13_feed_63 ?_
        refine lv_iconst (v := 1) hx hb dX13_feed_66 rfl ?_
        refine lv_iadd hx hb dX13_feed_67 ?_
        refine fg_put (C := RX13) (T := TX13) (N := 24) (ci := 0) (g := 0) (i := 0) hx hb hown hts hX hC in_X13 tyX13 tyX13_ok nmX13 rfl (min_ (by decide)) rfl 9 (by decide) q1319 (fun _ h => h) rfl rfl rfl (Nat.le_of_ble_eq_true rfl) (mct G (mpg d kp as bf (upd sc 3 ((sc 3) + 1)) fd (upd tp (ix (sc 3)) (vp_nar .byte (b >>> (0 &&& 31)))) it ws sz nu mv)) ms0_3 dX13_feed_68 (fun H locs hC => ?_)
        refine lv_iinc (v := (-1)) (lv' := [(3, .int (-1)), (0, .ref (G.ad 0 0)), (1, .int b), (2, .int 1)]) hx hb dX13_feed_71 hl (k := 0) rfl rfl (by decide) rfl (fun ls hl => ?_)
        refine lv_goto (tgt := 38) hx hb dX13_feed_74 (by decide) ?_
        refine lv_iload_n hx hb dX13_feed_38 rfl (lv_at hl 0 rfl) ?_
        refine lv_if_lt (tgt := 77) hx hb dX13_feed_39 (by decide) (fun _ => ?_) (fun z_5 => absurd (by decide) z_5)
        refine lv_aload_n hx hb dX13_feed_77 rfl (lv_at hl 1 rfl) ?_
        refine fg_get (C := RX13) (T := TX13) (N := 24) (ci := 0) (g := 0) (i := 0) (v := .int ((sc 3) + 1)) hx hb hown hts hX hC in_X13 rfl (min_ (by decide)) rfl 9 (by decide) q1319 (fun _ h => h) rfl dX13_feed_78 ?_
        have hs : s_feed fd tp (sc 3) b 1 = (((sc 3) + 1, (sc 3) + 1, upd tp (ix (sc 3)) (vp_nar .byte (b >>> (0 &&& 31))), fd) : Int32 × Int32 × Row × Row) := by rw [s_feed, if_pos c_2, if_neg c_3]; rfl
        exact fr_i hx hb hr hlocks hX hC () (congrArg (fun z => some (Value.int z)) (t4_1 hs)) (((congrArg (fun z => mct G (mpg d kp as bf (upd sc 3 ((s_feed fd tp (sc 3) b 1).2.1)) ((s_feed fd tp (sc 3) b 1).2.2.2) z it ws sz nu mv)) (t4_3 hs)).trans (congrArg (fun z => mct G (mpg d kp as bf (upd sc 3 ((s_feed fd tp (sc 3) b 1).2.1)) z (upd tp (ix (sc 3)) (vp_nar .byte (b >>> (0 &&& 31)))) it ws sz nu mv)) (t4_4 hs))).trans (congrArg (fun z => mct G (mpg d kp as bf (upd sc 3 z) fd (upd tp (ix (sc 3)) (vp_nar .byte (b >>> (0 &&& 31)))) it ws sz nu mv)) (t4_2 hs))).symm dX13_feed_81
      · subst qn
        refine lv_iload_n hx hb dX13_feed_34 rfl (lv_at hl 2 rfl) ?_
        refine lv_iconst (v := 1) hx hb dX13_feed_35 rfl ?_
        refine lv_isub hx hb dX13_feed_36 ?_
        refine W.eq (g2 := F0 m 37 ls [.int 1]) rfl ?_
        refine lv_istore_n (lv' := [(3, .int 1), (0, .ref (G.ad 0 0)), (1, .int b), (2, .int 2)]) hx hb dX13_feed_37 rfl hl (by decide) rfl (fun ls hl => ?_)
        refine lv_iload_n hx hb dX13_feed_38 rfl (lv_at hl 0 rfl) ?_
        refine lv_if_lt (tgt := 77) hx hb dX13_feed_39 (by decide) (fun z_6 => absurd z_6 (by decide)) (fun _ => ?_)
        refine lv_aload_n hx hb dX13_feed_42 rfl (lv_at hl 1 rfl) ?_
        refine fg_get (C := RX13) (T := TX13) (N := 24) (ci := 0) (g := 0) (i := 0) (v := .ref (G.ad 0 6)) hx hb hown hts hX hC in_X13 rfl (min_ (by decide)) rfl 8 (by decide) q1318 (fun _ h => h) rfl dX13_feed_43 ?_
        refine lv_aload_n hx hb dX13_feed_46 rfl (lv_at hl 1 rfl) ?_
        refine fg_get (C := RX13) (T := TX13) (N := 24) (ci := 0) (g := 0) (i := 0) (v := .int (sc 3)) hx hb hown hts hX hC in_X13 rfl (min_ (by decide)) rfl 9 (by decide) q1319 (fun _ h => h) rfl dX13_feed_47 ?_
        refine lv_iload_n hx hb dX13_feed_50 rfl (lv_at hl 2 rfl) ?_
        refine lv_bipush (v := 8) hx hb dX13_feed_51 rfl ?_
        refine lv_iload_n hx hb dX13_feed_53 rfl (lv_at hl 0 rfl) ?_
        refine lv_imul hx hb dX13_feed_54 ?_
        refine W.eq (g2 := F0 m 55 ls [.int 8, .int b, .int (sc 3), .ref (G.ad 0 6)]) rfl ?_
        refine lv_ishr hx hb dX13_feed_55 ?_
        refine lv_sipush (v := 255) hx hb dX13_feed_56 rfl ?_
        refine lv_iand hx hb dX13_feed_59 ?_
        refine fg_iast (g := 0) (i := 6) (t0 := 0) hx hb hX hC (min_ (by decide)) rfl rfl (show vp_in (sc 3) 120 from (Int32.add_zero (sc 3)) ▸ (tp_at (n := 2) (m := 0) ht c_3 (by decide) (by decide)).2) (mct G (mpg d kp as bf sc fd (upd tp (ix (sc 3)) (vp_nar .byte (b >>> (8 &&& 31)))) it ws sz nu mv)) (mu mp6 (mtp rfl)) dX13_feed_60 (fun H locs hC => ?_)
        refine lv_aload_n hx hb dX13_feed_61 rfl (lv_at hl 1 rfl) ?_
        refine lv_dup hx hb dX13_feed_62 rfl ?_
        refine fg_get (C := RX13) (T := TX13) (N := 24) (ci := 0) (g := 0) (i := 0) (v := .int (sc 3)) hx hb hown hts hX hC in_X13 rfl (min_ (by decide)) rfl 9 (by decide) q1319 (fun _ h => h) rfl dX13_feed_63 ?_
        refine lv_iconst (v := 1) hx hb dX13_feed_66 rfl ?_
        refine lv_iadd hx hb dX13_feed_67 ?_
        refine fg_put (C := RX13) (T := TX13) (N := 24) (ci := 0) (g := 0) (i := 0) hx hb hown hts hX hC in_X13 tyX13 tyX13_ok nmX13 rfl (min_ (by decide)) rfl 9 (by decide) q1319 (fun _ h => h) rfl rfl rfl (Nat.le_of_ble_eq_true rfl) (mct G (mpg d kp as bf (upd sc 3 ((sc 3) + 1)) fd (upd tp (ix (sc 3)) (vp_nar .byte (b >>> (8 &&& 31)))) it ws sz nu mv)) ms0_3 dX13_feed_68 (fun H locs hC => ?_)
        refine lv_iinc (v := 0) (lv' := [(3, .int 0), (0, .ref (G.ad 0 0)), (1, .int b), (2, .int 2)]) hx hb dX13_feed_71 hl (k := 0) rfl rfl (by decide) rfl (fun ls hl => ?_)
        refine lv_goto (tgt := 38) hx hb dX13_feed_74 (by decide) ?_
        refine lv_iload_n hx hb dX13_feed_38 rfl (lv_at hl 0 rfl) ?_
        refine lv_if_lt (tgt := 77) hx hb dX13_feed_39 (by decide) (fun z_7 => absurd z_7 (by decide)) (fun _ => ?_)
        refine lv_aload_n hx hb dX13_feed_42 rfl (lv_at hl 1 rfl) ?_
        refine fg_get (C := RX13) (T := TX13) (N := 24) (ci := 0) (g := 0) (i := 0) (v := .ref (G.ad 0 6)) hx hb hown hts hX hC in_X13 rfl (min_ (by decide)) rfl 8 (by decide) q1318 (fun _ h => h) rfl dX13_feed_43 ?_
        refine lv_aload_n hx hb dX13_feed_46 rfl (lv_at hl 1 rfl) ?_
        refine fg_get (C := RX13) (T := TX13) (N := 24) (ci := 0) (g := 0) (i := 0) (v := .int ((sc 3) + 1)) hx hb hown hts hX hC in_X13 rfl (min_ (by decide)) rfl 9 (by decide) q1319 (fun _ h => h) rfl dX13_feed_47 ?_
        refine lv_iload_n hx hb dX13_feed_50 rfl (lv_at hl 2 rfl) ?_
        refine lv_bipush (v := 8) hx hb dX13_feed_51 rfl ?_
        refine lv_iload_n hx hb dX13_feed_53 rfl (lv_at hl 0 rfl) ?_
        refine lv_imul hx hb dX13_feed_54 ?_
        refine W.eq (g2 := F0 m 55 ls [.int 0, .int b, .int ((sc 3) + 1), .ref (G.ad 0 6)]) rfl ?_
        refine lv_ishr hx hb dX13_feed_55 ?_
        refine lv_sipush (v := 255) hx hb dX13_feed_56 rfl ?_
        refine lv_iand hx hb dX13_feed_59 ?_
        refine fg_iast (g := 0) (i := 6) (t0 := 0) hx hb hX hC (min_ (by decide)) rfl rfl (tp_at (n := 2) (m := 1) ht c_3 (by decide) (by decide)).2 (mct G (mpg d kp as bf (upd sc 3 ((sc 3) + 1)) fd (upd (upd tp (ix (sc 3)) (vp_nar .byte (b >>> (8 &&& 31)))) (ix (sc 3) + 1) (vp_nar .byte (b >>> (0 &&& 31)))) it ws sz nu mv)) (mu mp6 (mtp (tp_at (n := 2) (m := 1) ht c_3 (by decide) (by decide)).1)) dX13_feed_60 (fun H locs hC => ?_)
        refine lv_aload_n hx hb dX13_feed_61 rfl (lv_at hl 1 rfl) ?_
        refine lv_dup hx hb dX13_feed_62 rfl ?_
        refine fg_get (C := RX13) (T := TX13) (N := 24) (ci := 0) (g := 0) (i := 0) (v := .int ((sc 3) + 1)) hx hb hown hts hX hC in_X13 rfl (min_ (by decide)) rfl 9 (by decide) q1319 (fun _ h => h) rfl dX13_feed_63 ?_
        refine lv_iconst (v := 1) hx hb dX13_feed_66 rfl ?_
        refine lv_iadd hx hb dX13_feed_67 ?_
        refine fg_put (C := RX13) (T := TX13) (N := 24) (ci := 0) (g := 0) (i := 0) hx hb hown hts hX hC in_X13 tyX13 tyX13_ok nmX13 rfl (min_ (by decide)) rfl 9 (by decide) q1319 (fun _ h => h) rfl rfl rfl (Nat.le_of_ble_eq_true rfl) (mct G (mpg d kp as bf (upd sc 3 (((sc 3) + 1) + 1)) fd (upd (upd tp (ix (sc 3)) (vp_nar .byte (b >>> (8 &&& 31)))) (ix (sc 3) + 1) (vp_nar .byte (b >>> (0 &&& 31)))) it ws sz nu mv)) ms0c_3 dX13_feed_68 (fun H locs hC => ?_)
        refine lv_iinc (v := (-1)) (lv' := [(3, .int (-1)), (0, .ref (G.ad 0 0)), (1, .int b), (2, .int 2)]) hx hb dX13_feed_71 hl (k := 0) rfl rfl (by decide) rfl (fun ls hl => ?_)
        refine lv_goto (tgt := 38) hx hb dX13_feed_74 (by decide) ?_
        refine lv_iload_n hx hb dX13_feed_38 rfl (lv_at hl 0 rfl) ?_
        refine lv_if_lt (tgt := 77) hx hb dX13_feed_39 (by decide) (fun _ => ?_) (fun z_8 => absurd (by decide) z_8)
        refine lv_aload_n hx hb dX13_feed_77 rfl (lv_at hl 1 rfl) ?_
        refine fg_get (C := RX13) (T := TX13) (N := 24) (ci := 0) (g := 0) (i := 0) (v := .int (((sc 3) + 1) + 1)) hx hb hown hts hX hC in_X13 rfl (min_ (by decide)) rfl 9 (by decide) q1319 (fun _ h => h) rfl dX13_feed_78 ?_
        have hs : s_feed fd tp (sc 3) b 2 = ((((sc 3) + 1) + 1, ((sc 3) + 1) + 1, upd (upd tp (ix (sc 3)) (vp_nar .byte (b >>> (8 &&& 31)))) (ix (sc 3) + 1) (vp_nar .byte (b >>> (0 &&& 31))), fd) : Int32 × Int32 × Row × Row) := by rw [s_feed, if_pos c_2, if_neg c_3, ad2]; rfl
        exact fr_i hx hb hr hlocks hX hC () (congrArg (fun z => some (Value.int z)) (t4_1 hs)) (((congrArg (fun z => mct G (mpg d kp as bf (upd sc 3 ((s_feed fd tp (sc 3) b 2).2.1)) ((s_feed fd tp (sc 3) b 2).2.2.2) z it ws sz nu mv)) (t4_3 hs)).trans (congrArg (fun z => mct G (mpg d kp as bf (upd sc 3 ((s_feed fd tp (sc 3) b 2).2.1)) z (upd (upd tp (ix (sc 3)) (vp_nar .byte (b >>> (8 &&& 31)))) (ix (sc 3) + 1) (vp_nar .byte (b >>> (0 &&& 31)))) it ws sz nu mv)) (t4_4 hs))).trans (congrArg (fun z => mct G (mpg d kp as bf (upd sc 3 z) fd (upd (upd tp (ix (sc 3)) (vp_nar .byte (b >>> (8 &&& 31)))) (ix (sc 3) + 1) (vp_nar .byte (b >>> (0 &&& 31)))) it ws sz nu mv)) (t4_2 hs))).symm dX13_feed_81
      · subst qn
        refine lv_iload_n hx hb dX13_feed_34 rfl (lv_at hl 2 rfl) ?_
        refine lv_iconst (v := 1) hx hb dX13_feed_35 rfl ?_
        refine lv_isub hx hb dX13_feed_36 ?_
        refine W.eq (g2 := F0 m 37 ls [.int 2]) rfl ?_
        refine lv_istore_n (lv' := [(3, .int 2), (0, .ref (G.ad 0 0)), (1, .int b), (2, .int 3)]) hx hb dX13_feed_37 rfl hl (by decide) rfl (fun ls hl => ?_)
        refine lv_iload_n hx hb dX13_feed_38 rfl (lv_at hl 0 rfl) ?_
        refine lv_if_lt (tgt := 77) hx hb dX13_feed_39 (by decide) (fun z_9 => absurd z_9 (by decide)) (fun _ => ?_)
        refine lv_aload_n hx hb dX13_feed_42 rfl (lv_at hl 1 rfl) ?_
        refine fg_get (C := RX13) (T := TX13) (N := 24) (ci := 0) (g := 0) (i := 0) (v := .ref (G.ad 0 6)) hx hb hown hts hX hC in_X13 rfl (min_ (by decide)) rfl 8 (by decide) q1318 (fun _ h => h) rfl dX13_feed_43 ?_
        refine lv_aload_n hx hb dX13_feed_46 rfl (lv_at hl 1 rfl) ?_
        refine fg_get (C := RX13) (T := TX13) (N := 24) (ci := 0) (g := 0) (i := 0) (v := .int (sc 3)) hx hb hown hts hX hC in_X13 rfl (min_ (by decide)) rfl 9 (by decide) q1319 (fun _ h => h) rfl dX13_feed_47 ?_
        refine lv_iload_n hx hb dX13_feed_50 rfl (lv_at hl 2 rfl) ?_
        refine lv_bipush (v := 8) hx hb dX13_feed_51 rfl ?_
        refine lv_iload_n hx hb dX13_feed_53 rfl (lv_at hl 0 rfl) ?_
        refine lv_imul hx hb dX13_feed_54 ?_
        refine W.eq (g2 := F0 m 55 ls [.int 16, .int b, .int (sc 3), .ref (G.ad 0 6)]) rfl ?_
        refine lv_ishr hx hb dX13_feed_55 ?_
        refine lv_sipush (v := 255) hx hb dX13_feed_56 rfl ?_
        refine lv_iand hx hb dX13_feed_59 ?_
        refine fg_iast (g := 0) (i := 6) (t0 := 0) hx hb hX hC (min_ (by decide)) rfl rfl (show vp_in (sc 3) 120 from (Int32.add_zero (sc 3)) ▸ (tp_at (n := 3) (m := 0) ht c_3 (by decide) (by decide)).2) (mct G (mpg d kp as bf sc fd (upd tp (ix (sc 3)) (vp_nar .byte (b >>> (16 &&& 31)))) it ws sz nu mv)) (mu mp6 (mtp rfl)) dX13_feed_60 (fun H locs hC => ?_)
        refine lv_aload_n hx hb dX13_feed_61 rfl (lv_at hl 1 rfl) ?_
        refine lv_dup hx hb dX13_feed_62 rfl ?_
        refine fg_get (C := RX13) (T := TX13) (N := 24) (ci := 0) (g := 0) (i := 0) (v := .int (sc 3)) hx hb hown hts hX hC in_X13 rfl (min_ (by decide)) rfl 9 (by decide) q1319 (fun _ h => h) rfl dX13_feed_63 ?_
        refine lv_iconst (v := 1) hx hb dX13_feed_66 rfl ?_
        refine lv_iadd hx hb dX13_feed_67 ?_
        refine fg_put (C := RX13) (T := TX13) (N := 24) (ci := 0) (g := 0) (i := 0) hx hb hown hts hX hC in_X13 tyX13 tyX13_ok nmX13 rfl (min_ (by decide)) rfl 9 (by decide) q1319 (fun _ h => h) rfl rfl rfl (Nat.le_of_ble_eq_true rfl) (mct G (mpg d kp as bf (upd sc 3 ((sc 3) + 1)) fd (upd tp (ix (sc 3)) (vp_nar .byte (b >>> (16 &&& 31)))) it ws sz nu mv)) ms0_3 dX13_feed_68 (fun H locs hC => ?_)
        refine lv_iinc (v := 1) (lv' := [(3, .int 1), (0, .ref (G.ad 0 0)), (1, .int b), (2, .int 3)]) hx hb dX13_feed_71 hl (k := 0) rfl rfl (by decide) rfl (fun ls hl => ?_)
        refine lv_goto (tgt := 38) hx hb dX13_feed_74 (by decide) ?_
        refine lv_iload_n hx hb dX13_feed_38 rfl (lv_at hl 0 rfl) ?_
        refine lv_if_lt (tgt := 77) hx hb dX13_feed_39 (by decide) (fun z_10 => absurd z_10 (by decide)) (fun _ => ?_)
        refine lv_aload_n hx hb dX13_feed_42 rfl (lv_at hl 1 rfl) ?_
        refine fg_get (C := RX13) (T := TX13) (N := 24) (ci := 0) (g := 0) (i := 0) (v := .ref (G.ad 0 6)) hx hb hown hts hX hC in_X13 rfl (min_ (by decide)) rfl 8 (by decide) q1318 (fun _ h => h) rfl dX13_feed_43 ?_
        refine lv_aload_n hx hb dX13_feed_46 rfl (lv_at hl 1 rfl) ?_
        refine fg_get (C := RX13) (T := TX13) (N := 24) (ci := 0) (g := 0) (i := 0) (v := .int ((sc 3) + 1)) hx hb hown hts hX hC in_X13 rfl (min_ (by decide)) rfl 9 (by decide) q1319 (fun _ h => h) rfl dX13_feed_47 ?_
        refine lv_iload_n hx hb dX13_feed_50 rfl (lv_at hl 2 rfl) ?_
        refine lv_bipush (v := 8) hx hb dX13_feed_51 rfl ?_
        refine lv_iload_n hx hb dX13_feed_53 rfl (lv_at hl 0 rfl) ?_
        refine lv_imul hx hb dX13_feed_54 ?_
        refine W.eq (g2 := F0 m 55 ls [.int 8, .int b, .int ((sc 3) + 1), .ref (G.ad 0 6)]) rfl ?_
        refine lv_ishr hx hb dX13_feed_55 ?_
        refine lv_sipush (v := 255) hx hb dX13_feed_56 rfl ?_
        refine lv_iand hx hb dX13_feed_59 ?_
        refine fg_iast (g := 0) (i := 6) (t0 := 0) hx hb hX hC (min_ (by decide)) rfl rfl (tp_at (n := 3) (m := 1) ht c_3 (by decide) (by decide)).2 (mct G (mpg d kp as bf (upd sc 3 ((sc 3) + 1)) fd (upd (upd tp (ix (sc 3)) (vp_nar .byte (b >>> (16 &&& 31)))) (ix (sc 3) + 1) (vp_nar .byte (b >>> (8 &&& 31)))) it ws sz nu mv)) (mu mp6 (mtp (tp_at (n := 3) (m := 1) ht c_3 (by decide) (by decide)).1)) dX13_feed_60 (fun H locs hC => ?_)
        refine lv_aload_n hx hb dX13_feed_61 rfl (lv_at hl 1 rfl) ?_
        refine lv_dup hx hb dX13_feed_62 rfl ?_
        refine fg_get (C := RX13) (T := TX13) (N := 24) (ci := 0) (g := 0) (i := 0) (v := .int ((sc 3) + 1)) hx hb hown hts hX hC in_X13 rfl (min_ (by decide)) rfl 9 (by decide) q1319 (fun _ h => h) rfl dX13_feed_63 ?_
        refine lv_iconst (v := 1) hx hb dX13_feed_66 rfl ?_
        refine lv_iadd hx hb dX13_feed_67 ?_
        refine fg_put (C := RX13) (T := TX13) (N := 24) (ci := 0) (g := 0) (i := 0) hx hb hown hts hX hC in_X13 tyX13 tyX13_ok nmX13 rfl (min_ (by decide)) rfl 9 (by decide) q1319 (fun _ h => h) rfl rfl rfl (Nat.le_of_ble_eq_true rfl) (mct G (mpg d kp as bf (upd sc 3 (((sc 3) + 1) + 1)) fd (upd (upd tp (ix (sc 3)) (vp_nar .byte (b >>> (16 &&& 31)))) (ix (sc 3) + 1) (vp_nar .byte (b >>> (8 &&& 31)))) it ws sz nu mv)) ms0c_3 dX13_feed_68 (fun H locs hC => ?_)
        refine lv_iinc (v := 0) (lv' := [(3, .int 0), (0, .ref (G.ad 0 0)), (1, .int b), (2, .int 3)]) hx hb dX13_feed_71 hl (k := 0) rfl rfl (by decide) rfl (fun ls hl => ?_)
        refine lv_goto (tgt := 38) hx hb dX13_feed_74 (by decide) ?_
        refine lv_iload_n hx hb dX13_feed_38 rfl (lv_at hl 0 rfl) ?_
        refine lv_if_lt (tgt := 77) hx hb dX13_feed_39 (by decide) (fun z_11 => absurd z_11 (by decide)) (fun _ => ?_)
        refine lv_aload_n hx hb dX13_feed_42 rfl (lv_at hl 1 rfl) ?_
        refine fg_get (C := RX13) (T := TX13) (N := 24) (ci := 0) (g := 0) (i := 0) (v := .ref (G.ad 0 6)) hx hb hown hts hX hC in_X13 rfl (min_ (by decide)) rfl 8 (by decide) q1318 (fun _ h => h) rfl dX13_feed_43 ?_
        refine lv_aload_n hx hb dX13_feed_46 rfl (lv_at hl 1 rfl) ?_
        refine fg_get (C := RX13) (T := TX13) (N := 24) (ci := 0) (g := 0) (i := 0) (v := .int (((sc 3) + 1) + 1)) hx hb hown hts hX hC in_X13 rfl (min_ (by decide)) rfl 9 (by decide) q1319 (fun _ h => h) rfl dX13_feed_47 ?_
        refine lv_iload_n hx hb dX13_feed_50 rfl (lv_at hl 2 rfl) ?_
        refine lv_bipush (v := 8) hx hb dX13_feed_51 rfl ?_
        refine lv_iload_n hx hb dX13_feed_53 rfl (lv_at hl 0 rfl) ?_
        refine lv_imul hx hb dX13_feed_54 ?_
        refine W.eq (g2 := F0 m 55 ls [.int 0, .int b, .int (((sc 3) + 1) + 1), .ref (G.ad 0 6)]) rfl ?_
        refine lv_ishr hx hb dX13_feed_55 ?_
        refine lv_sipush (v := 255) hx hb dX13_feed_56 rfl ?_
        refine lv_iand hx hb dX13_feed_59 ?_
        refine fg_iast (g := 0) (i := 6) (t0 := 0) hx hb hX hC (min_ (by decide)) rfl rfl (show vp_in (((sc 3) + 1) + 1) 120 from (ad2 (sc 3)).symm ▸ (tp_at (n := 3) (m := 2) ht c_3 (by decide) (by decide)).2) (mct G (mpg d kp as bf (upd sc 3 (((sc 3) + 1) + 1)) fd (upd (upd (upd tp (ix (sc 3)) (vp_nar .byte (b >>> (16 &&& 31)))) (ix (sc 3) + 1) (vp_nar .byte (b >>> (8 &&& 31)))) (ix (sc 3) + 2) (vp_nar .byte (b >>> (0 &&& 31)))) it ws sz nu mv)) (mu mp6 (mtp ((congrArg ix (ad2 (sc 3))).trans (tp_at (n := 3) (m := 2) ht c_3 (by decide) (by decide)).1))) dX13_feed_60 (fun H locs hC => ?_)
        refine lv_aload_n hx hb dX13_feed_61 rfl (lv_at hl 1 rfl) ?_
        refine lv_dup hx hb dX13_feed_62 rfl ?_
        refine fg_get (C := RX13) (T := TX13) (N := 24) (ci := 0) (g := 0) (i := 0) (v := .int (((sc 3) + 1) + 1)) hx hb hown hts hX hC in_X13 rfl (min_ (by decide)) rfl 9 (by decide) q1319 (fun _ h => h) rfl dX13_feed_63 ?_
        refine lv_iconst (v := 1) hx hb dX13_feed_66 rfl ?_
        refine lv_iadd hx hb dX13_feed_67 ?_
        refine fg_put (C := RX13) (T := TX13) (N := 24) (ci := 0) (g := 0) (i := 0) hx hb hown hts hX hC in_X13 tyX13 tyX13_ok nmX13 rfl (min_ (by decide)) rfl 9 (by decide) q1319 (fun _ h => h) rfl rfl rfl (Nat.le_of_ble_eq_true rfl) (mct G (mpg d kp as bf (upd sc 3 ((((sc 3) + 1) + 1) + 1)) fd (upd (upd (upd tp (ix (sc 3)) (vp_nar .byte (b >>> (16 &&& 31)))) (ix (sc 3) + 1) (vp_nar .byte (b >>> (8 &&& 31)))) (ix (sc 3) + 2) (vp_nar .byte (b >>> (0 &&& 31)))) it ws sz nu mv)) ms0c_3 dX13_feed_68 (fun H locs hC => ?_)
        refine lv_iinc (v := (-1)) (lv' := [(3, .int (-1)), (0, .ref (G.ad 0 0)), (1, .int b), (2, .int 3)]) hx hb dX13_feed_71 hl (k := 0) rfl rfl (by decide) rfl (fun ls hl => ?_)
        refine lv_goto (tgt := 38) hx hb dX13_feed_74 (by decide) ?_
        refine lv_iload_n hx hb dX13_feed_38 rfl (lv_at hl 0 rfl) ?_
        refine lv_if_lt (tgt := 77) hx hb dX13_feed_39 (by decide) (fun _ => ?_) (fun z_12 => absurd (by decide) z_12)
        refine lv_aload_n hx hb dX13_feed_77 rfl (lv_at hl 1 rfl) ?_
        refine fg_get (C := RX13) (T := TX13) (N := 24) (ci := 0) (g := 0) (i := 0) (v := .int ((((sc 3) + 1) + 1) + 1)) hx hb hown hts hX hC in_X13 rfl (min_ (by decide)) rfl 9 (by decide) q1319 (fun _ h => h) rfl dX13_feed_78 ?_
        have hs : s_feed fd tp (sc 3) b 3 = (((((sc 3) + 1) + 1) + 1, (((sc 3) + 1) + 1) + 1, upd (upd (upd tp (ix (sc 3)) (vp_nar .byte (b >>> (16 &&& 31)))) (ix (sc 3) + 1) (vp_nar .byte (b >>> (8 &&& 31)))) (ix (sc 3) + 2) (vp_nar .byte (b >>> (0 &&& 31))), fd) : Int32 × Int32 × Row × Row) := by rw [s_feed, if_pos c_2, if_neg c_3, ad3]; rfl
        exact fr_i hx hb hr hlocks hX hC () (congrArg (fun z => some (Value.int z)) (t4_1 hs)) (((congrArg (fun z => mct G (mpg d kp as bf (upd sc 3 ((s_feed fd tp (sc 3) b 3).2.1)) ((s_feed fd tp (sc 3) b 3).2.2.2) z it ws sz nu mv)) (t4_3 hs)).trans (congrArg (fun z => mct G (mpg d kp as bf (upd sc 3 ((s_feed fd tp (sc 3) b 3).2.1)) z (upd (upd (upd tp (ix (sc 3)) (vp_nar .byte (b >>> (16 &&& 31)))) (ix (sc 3) + 1) (vp_nar .byte (b >>> (8 &&& 31)))) (ix (sc 3) + 2) (vp_nar .byte (b >>> (0 &&& 31)))) it ws sz nu mv)) (t4_4 hs))).trans (congrArg (fun z => mct G (mpg d kp as bf (upd sc 3 z) fd (upd (upd (upd tp (ix (sc 3)) (vp_nar .byte (b >>> (16 &&& 31)))) (ix (sc 3) + 1) (vp_nar .byte (b >>> (8 &&& 31)))) (ix (sc 3) + 2) (vp_nar .byte (b >>> (0 &&& 31)))) it ws sz nu mv)) (t4_2 hs))).symm dX13_feed_81
      · subst qn
        refine lv_iload_n hx hb dX13_feed_34 rfl (lv_at hl 2 rfl) ?_
        refine lv_iconst (v := 1) hx hb dX13_feed_35 rfl ?_
        refine lv_isub hx hb dX13_feed_36 ?_
        refine W.eq (g2 := F0 m 37 ls [.int 3]) rfl ?_
        refine lv_istore_n (lv' := [(3, .int 3), (0, .ref (G.ad 0 0)), (1, .int b), (2, .int 4)]) hx hb dX13_feed_37 rfl hl (by decide) rfl (fun ls hl => ?_)
        refine lv_iload_n hx hb dX13_feed_38 rfl (lv_at hl 0 rfl) ?_
        refine lv_if_lt (tgt := 77) hx hb dX13_feed_39 (by decide) (fun z_13 => absurd z_13 (by decide)) (fun _ => ?_)
        refine lv_aload_n hx hb dX13_feed_42 rfl (lv_at hl 1 rfl) ?_
        refine fg_get (C := RX13) (T := TX13) (N := 24) (ci := 0) (g := 0) (i := 0) (v := .ref (G.ad 0 6)) hx hb hown hts hX hC in_X13 rfl (min_ (by decide)) rfl 8 (by decide) q1318 (fun _ h => h) rfl dX13_feed_43 ?_
        refine lv_aload_n hx hb dX13_feed_46 rfl (lv_at hl 1 rfl) ?_
        refine fg_get (C := RX13) (T := TX13) (N := 24) (ci := 0) (g := 0) (i := 0) (v := .int (sc 3)) hx hb hown hts hX hC in_X13 rfl (min_ (by decide)) rfl 9 (by decide) q1319 (fun _ h => h) rfl dX13_feed_47 ?_
        refine lv_iload_n hx hb dX13_feed_50 rfl (lv_at hl 2 rfl) ?_
        refine lv_bipush (v := 8) hx hb dX13_feed_51 rfl ?_
        refine lv_iload_n hx hb dX13_feed_53 rfl (lv_at hl 0 rfl) ?_
        refine lv_imul hx hb dX13_feed_54 ?_
        refine W.eq (g2 := F0 m 55 ls [.int 24, .int b, .int (sc 3), .ref (G.ad 0 6)]) rfl ?_
        refine lv_ishr hx hb dX13_feed_55 ?_
        refine lv_sipush (v := 255) hx hb dX13_feed_56 rfl ?_
        refine lv_iand hx hb dX13_feed_59 ?_
        refine fg_iast (g := 0) (i := 6) (t0 := 0) hx hb hX hC (min_ (by decide)) rfl rfl (show vp_in (sc 3) 120 from (Int32.add_zero (sc 3)) ▸ (tp_at (n := 4) (m := 0) ht c_3 (by decide) (by decide)).2) (mct G (mpg d kp as bf sc fd (upd tp (ix (sc 3)) (vp_nar .byte (b >>> (24 &&& 31)))) it ws sz nu mv)) (mu mp6 (mtp rfl)) dX13_feed_60 (fun H locs hC => ?_)
        refine lv_aload_n hx hb dX13_feed_61 rfl (lv_at hl 1 rfl) ?_
        refine lv_dup hx hb dX13_feed_62 rfl ?_
        refine fg_get (C := RX13) (T := TX13) (N := 24) (ci := 0) (g := 0) (i := 0) (v := .int (sc 3)) hx hb hown hts hX hC in_X13 rfl (min_ (by decide)) rfl 9 (by decide) q1319 (fun _ h => h) rfl dX13_feed_63 ?_
        refine lv_iconst (v := 1) hx hb dX13_feed_66 rfl ?_
        refine lv_iadd hx hb dX13_feed_67 ?_
        refine fg_put (C := RX13) (T := TX13) (N := 24) (ci := 0) (g := 0) (i := 0) hx hb hown hts hX hC in_X13 tyX13 tyX13_ok nmX13 rfl (min_ (by decide)) rfl 9 (by decide) q1319 (fun _ h => h) rfl rfl rfl (Nat.le_of_ble_eq_true rfl) (mct G (mpg d kp as bf (upd sc 3 ((sc 3) + 1)) fd (upd tp (ix (sc 3)) (vp_nar .byte (b >>> (24 &&& 31)))) it ws sz nu mv)) ms0_3 dX13_feed_68 (fun H locs hC => ?_)
        refine lv_iinc (v := 2) (lv' := [(3, .int 2), (0, .ref (G.ad 0 0)), (1, .int b), (2, .int 4)]) hx hb dX13_feed_71 hl (k := 0) rfl rfl (by decide) rfl (fun ls hl => ?_)
        refine lv_goto (tgt := 38) hx hb dX13_feed_74 (by decide) ?_
        refine lv_iload_n hx hb dX13_feed_38 rfl (lv_at hl 0 rfl) ?_
        refine lv_if_lt (tgt := 77) hx hb dX13_feed_39 (by decide) (fun z_14 => absurd z_14 (by decide)) (fun _ => ?_)
        refine lv_aload_n hx hb dX13_feed_42 rfl (lv_at hl 1 rfl) ?_
        refine fg_get (C := RX13) (T := TX13) (N := 24) (ci := 0) (g := 0) (i := 0) (v := .ref (G.ad 0 6)) hx hb hown hts hX hC in_X13 rfl (min_ (by decide)) rfl 8 (by decide) q1318 (fun _ h => h) rfl dX13_feed_43 ?_
        refine lv_aload_n hx hb dX13_feed_46 rfl (lv_at hl 1 rfl) ?_
        refine fg_get (C := RX13) (T := TX13) (N := 24) (ci := 0) (g := 0) (i := 0) (v := .int ((sc 3) + 1)) hx hb hown hts hX hC in_X13 rfl (min_ (by decide)) rfl 9 (by decide) q1319 (fun _ h => h) rfl dX13_feed_47 ?_
        refine lv_iload_n hx hb dX13_feed_50 rfl (lv_at hl 2 rfl) ?_
        refine lv_bipush (v := 8) hx hb dX13_feed_51 rfl ?_
        refine lv_iload_n hx hb dX13_feed_53 rfl (lv_at hl 0 rfl) ?_
        refine lv_imul hx hb dX13_feed_54 ?_
        refine W.eq (g2 := F0 m 55 ls [.int 16, .int b, .int ((sc 3) + 1), .ref (G.ad 0 6)]) rfl ?_
        refine lv_ishr hx hb dX13_feed_55 ?_
        refine lv_sipush (v := 255) hx hb dX13_feed_56 rfl ?_
        refine lv_iand hx hb dX13_feed_59 ?_
        refine fg_iast (g := 0) (i := 6) (t0 := 0) hx hb hX hC (min_ (by decide)) rfl rfl (tp_at (n := 4) (m := 1) ht c_3 (by decide) (by decide)).2 (mct G (mpg d kp as bf (upd sc 3 ((sc 3) + 1)) fd (upd (upd tp (ix (sc 3)) (vp_nar .byte (b >>> (24 &&& 31)))) (ix (sc 3) + 1) (vp_nar .byte (b >>> (16 &&& 31)))) it ws sz nu mv)) (mu mp6 (mtp (tp_at (n := 4) (m := 1) ht c_3 (by decide) (by decide)).1)) dX13_feed_60 (fun H locs hC => ?_)
        refine lv_aload_n hx hb dX13_feed_61 rfl (lv_at hl 1 rfl) ?_
        refine lv_dup hx hb dX13_feed_62 rfl ?_
        refine fg_get (C := RX13) (T := TX13) (N := 24) (ci := 0) (g := 0) (i := 0) (v := .int ((sc 3) + 1)) hx hb hown hts hX hC in_X13 rfl (min_ (by decide)) rfl 9 (by decide) q1319 (fun _ h => h) rfl dX13_feed_63 ?_
        refine lv_iconst (v := 1) hx hb dX13_feed_66 rfl ?_
        refine lv_iadd hx hb dX13_feed_67 ?_
        refine fg_put (C := RX13) (T := TX13) (N := 24) (ci := 0) (g := 0) (i := 0) hx hb hown hts hX hC in_X13 tyX13 tyX13_ok nmX13 rfl (min_ (by decide)) rfl 9 (by decide) q1319 (fun _ h => h) rfl rfl rfl (Nat.le_of_ble_eq_true rfl) (mct G (mpg d kp as bf (upd sc 3 (((sc 3) + 1) + 1)) fd (upd (upd tp (ix (sc 3)) (vp_nar .byte (b >>> (24 &&& 31)))) (ix (sc 3) + 1) (vp_nar .byte (b >>> (16 &&& 31)))) it ws sz nu mv)) ms0c_3 dX13_feed_68 (fun H locs hC => ?_)
        refine lv_iinc (v := 1) (lv' := [(3, .int 1), (0, .ref (G.ad 0 0)), (1, .int b), (2, .int 4)]) hx hb dX13_feed_71 hl (k := 0) rfl rfl (by decide) rfl (fun ls hl => ?_)
        refine lv_goto (tgt := 38) hx hb dX13_feed_74 (by decide) ?_
        refine lv_iload_n hx hb dX13_feed_38 rfl (lv_at hl 0 rfl) ?_
        refine lv_if_lt (tgt := 77) hx hb dX13_feed_39 (by decide) (fun z_15 => absurd z_15 (by decide)) (fun _ => ?_)
        refine lv_aload_n hx hb dX13_feed_42 rfl (lv_at hl 1 rfl) ?_
        refine fg_get (C := RX13) (T := TX13) (N := 24) (ci := 0) (g := 0) (i := 0) (v := .ref (G.ad 0 6)) hx hb hown hts hX hC in_X13 rfl (min_ (by decide)) rfl 8 (by decide) q1318 (fun _ h => h) rfl dX13_feed_43 ?_
        refine lv_aload_n hx hb dX13_feed_46 rfl (lv_at hl 1 rfl) ?_
        refine fg_get (C := RX13) (T := TX13) (N := 24) (ci := 0) (g := 0) (i := 0) (v := .int (((sc 3) + 1) + 1)) hx hb hown hts hX hC in_X13 rfl (min_ (by decide)) rfl 9 (by decide) q1319 (fun _ h => h) rfl dX13_feed_47 ?_
        refine lv_iload_n hx hb dX13_feed_50 rfl (lv_at hl 2 rfl) ?_
        refine lv_bipush (v := 8) hx hb dX13_feed_51 rfl ?_
        refine lv_iload_n hx hb dX13_feed_53 rfl (lv_at hl 0 rfl) ?_
        refine lv_imul hx hb dX13_feed_54 ?_
        refine W.eq (g2 := F0 m 55 ls [.int 8, .int b, .int (((sc 3) + 1) + 1), .ref (G.ad 0 6)]) rfl ?_
        refine lv_ishr hx hb dX13_feed_55 ?_
        refine lv_sipush (v := 255) hx hb dX13_feed_56 rfl ?_
        refine lv_iand hx hb dX13_feed_59 ?_
        refine fg_iast (g := 0) (i := 6) (t0 := 0) hx hb hX hC (min_ (by decide)) rfl rfl (show vp_in (((sc 3) + 1) + 1) 120 from (ad2 (sc 3)).symm ▸ (tp_at (n := 4) (m := 2) ht c_3 (by decide) (by decide)).2) (mct G (mpg d kp as bf (upd sc 3 (((sc 3) + 1) + 1)) fd (upd (upd (upd tp (ix (sc 3)) (vp_nar .byte (b >>> (24 &&& 31)))) (ix (sc 3) + 1) (vp_nar .byte (b >>> (16 &&& 31)))) (ix (sc 3) + 2) (vp_nar .byte (b >>> (8 &&& 31)))) it ws sz nu mv)) (mu mp6 (mtp ((congrArg ix (ad2 (sc 3))).trans (tp_at (n := 4) (m := 2) ht c_3 (by decide) (by decide)).1))) dX13_feed_60 (fun H locs hC => ?_)
        refine lv_aload_n hx hb dX13_feed_61 rfl (lv_at hl 1 rfl) ?_
        refine lv_dup hx hb dX13_feed_62 rfl ?_
        refine fg_get (C := RX13) (T := TX13) (N := 24) (ci := 0) (g := 0) (i := 0) (v := .int (((sc 3) + 1) + 1)) hx hb hown hts hX hC in_X13 rfl (min_ (by decide)) rfl 9 (by decide) q1319 (fun _ h => h) rfl dX13_feed_63 ?_
        refine lv_iconst (v := 1) hx hb dX13_feed_66 rfl ?_
        refine lv_iadd hx hb dX13_feed_67 ?_
        refine fg_put (C := RX13) (T := TX13) (N := 24) (ci := 0) (g := 0) (i := 0) hx hb hown hts hX hC in_X13 tyX13 tyX13_ok nmX13 rfl (min_ (by decide)) rfl 9 (by decide) q1319 (fun _ h => h) rfl rfl rfl (Nat.le_of_ble_eq_true rfl) (mct G (mpg d kp as bf (upd sc 3 ((((sc 3) + 1) + 1) + 1)) fd (upd (upd (upd tp (ix (sc 3)) (vp_nar .byte (b >>> (24 &&& 31)))) (ix (sc 3) + 1) (vp_nar .byte (b >>> (16 &&& 31)))) (ix (sc 3) + 2) (vp_nar .byte (b >>> (8 &&& 31)))) it ws sz nu mv)) ms0c_3 dX13_feed_68 (fun H locs hC => ?_)
        refine lv_iinc (v := 0) (lv' := [(3, .int 0), (0, .ref (G.ad 0 0)), (1, .int b), (2, .int 4)]) hx hb dX13_feed_71 hl (k := 0) rfl rfl (by decide) rfl (fun ls hl => ?_)
        refine lv_goto (tgt := 38) hx hb dX13_feed_74 (by decide) ?_
        refine lv_iload_n hx hb dX13_feed_38 rfl (lv_at hl 0 rfl) ?_
        refine lv_if_lt (tgt := 77) hx hb dX13_feed_39 (by decide) (fun z_16 => absurd z_16 (by decide)) (fun _ => ?_)
        refine lv_aload_n hx hb dX13_feed_42 rfl (lv_at hl 1 rfl) ?_
        refine fg_get (C := RX13) (T := TX13) (N := 24) (ci := 0) (g := 0) (i := 0) (v := .ref (G.ad 0 6)) hx hb hown hts hX hC in_X13 rfl (min_ (by decide)) rfl 8 (by decide) q1318 (fun _ h => h) rfl dX13_feed_43 ?_
        refine lv_aload_n hx hb dX13_feed_46 rfl (lv_at hl 1 rfl) ?_
        refine fg_get (C := RX13) (T := TX13) (N := 24) (ci := 0) (g := 0) (i := 0) (v := .int ((((sc 3) + 1) + 1) + 1)) hx hb hown hts hX hC in_X13 rfl (min_ (by decide)) rfl 9 (by decide) q1319 (fun _ h => h) rfl dX13_feed_47 ?_
        refine lv_iload_n hx hb dX13_feed_50 rfl (lv_at hl 2 rfl) ?_
        refine lv_bipush (v := 8) hx hb dX13_feed_51 rfl ?_
        refine lv_iload_n hx hb dX13_feed_53 rfl (lv_at hl 0 rfl) ?_
        refine lv_imul hx hb dX13_feed_54 ?_
        refine W.eq (g2 := F0 m 55 ls [.int 0, .int b, .int ((((sc 3) + 1) + 1) + 1), .ref (G.ad 0 6)]) rfl ?_
        refine lv_ishr hx hb dX13_feed_55 ?_
        refine lv_sipush (v := 255) hx hb dX13_feed_56 rfl ?_
        refine lv_iand hx hb dX13_feed_59 ?_
        refine fg_iast (g := 0) (i := 6) (t0 := 0) hx hb hX hC (min_ (by decide)) rfl rfl (show vp_in ((((sc 3) + 1) + 1) + 1) 120 from (ad3 (sc 3)).symm ▸ (tp_at (n := 4) (m := 3) ht c_3 (by decide) (by decide)).2) (mct G (mpg d kp as bf (upd sc 3 ((((sc 3) + 1) + 1) + 1)) fd (upd (upd (upd (upd tp (ix (sc 3)) (vp_nar .byte (b >>> (24 &&& 31)))) (ix (sc 3) + 1) (vp_nar .byte (b >>> (16 &&& 31)))) (ix (sc 3) + 2) (vp_nar .byte (b >>> (8 &&& 31)))) (ix (sc 3) + 3) (vp_nar .byte (b >>> (0 &&& 31)))) it ws sz nu mv)) (mu mp6 (mtp ((congrArg ix (ad3 (sc 3))).trans (tp_at (n := 4) (m := 3) ht c_3 (by decide) (by decide)).1))) dX13_feed_60 (fun H locs hC => ?_)
        refine lv_aload_n hx hb dX13_feed_61 rfl (lv_at hl 1 rfl) ?_
        refine lv_dup hx hb dX13_feed_62 rfl ?_
        refine fg_get (C := RX13) (T := TX13) (N := 24) (ci := 0) (g := 0) (i := 0) (v := .int ((((sc 3) + 1) + 1) + 1)) hx hb hown hts hX hC in_X13 rfl (min_ (by decide)) rfl 9 (by decide) q1319 (fun _ h => h) rfl dX13_feed_63 ?_
        refine lv_iconst (v := 1) hx hb dX13_feed_66 rfl ?_
        refine lv_iadd hx hb dX13_feed_67 ?_
        refine fg_put (C := RX13) (T := TX13) (N := 24) (ci := 0) (g := 0) (i := 0) hx hb hown hts hX hC in_X13 tyX13 tyX13_ok nmX13 rfl (min_ (by decide)) rfl 9 (by decide) q1319 (fun _ h => h) rfl rfl rfl (Nat.le_of_ble_eq_true rfl) (mct G (mpg d kp as bf (upd sc 3 (((((sc 3) + 1) + 1) + 1) + 1)) fd (upd (upd (upd (upd tp (ix (sc 3)) (vp_nar .byte (b >>> (24 &&& 31)))) (ix (sc 3) + 1) (vp_nar .byte (b >>> (16 &&& 31)))) (ix (sc 3) + 2) (vp_nar .byte (b >>> (8 &&& 31)))) (ix (sc 3) + 3) (vp_nar .byte (b >>> (0 &&& 31)))) it ws sz nu mv)) ms0c_3 dX13_feed_68 (fun H locs hC => ?_)
        refine lv_iinc (v := (-1)) (lv' := [(3, .int (-1)), (0, .ref (G.ad 0 0)), (1, .int b), (2, .int 4)]) hx hb dX13_feed_71 hl (k := 0) rfl rfl (by decide) rfl (fun ls hl => ?_)
        refine lv_goto (tgt := 38) hx hb dX13_feed_74 (by decide) ?_
        refine lv_iload_n hx hb dX13_feed_38 rfl (lv_at hl 0 rfl) ?_
        refine lv_if_lt (tgt := 77) hx hb dX13_feed_39 (by decide) (fun _ => ?_) (fun z_17 => absurd (by decide) z_17)
        refine lv_aload_n hx hb dX13_feed_77 rfl (lv_at hl 1 rfl) ?_
        refine fg_get (C := RX13) (T := TX13) (N := 24) (ci := 0) (g := 0) (i := 0) (v := .int (((((sc 3) + 1) + 1) + 1) + 1)) hx hb hown hts hX hC in_X13 rfl (min_ (by decide)) rfl 9 (by decide) q1319 (fun _ h => h) rfl dX13_feed_78 ?_
        have hs : s_feed fd tp (sc 3) b 4 = ((((((sc 3) + 1) + 1) + 1) + 1, ((((sc 3) + 1) + 1) + 1) + 1, upd (upd (upd (upd tp (ix (sc 3)) (vp_nar .byte (b >>> (24 &&& 31)))) (ix (sc 3) + 1) (vp_nar .byte (b >>> (16 &&& 31)))) (ix (sc 3) + 2) (vp_nar .byte (b >>> (8 &&& 31)))) (ix (sc 3) + 3) (vp_nar .byte (b >>> (0 &&& 31))), fd) : Int32 × Int32 × Row × Row) := by rw [s_feed, if_pos c_2, if_neg c_3, ad4]; rfl
        exact fr_i hx hb hr hlocks hX hC () (congrArg (fun z => some (Value.int z)) (t4_1 hs)) (((congrArg (fun z => mct G (mpg d kp as bf (upd sc 3 ((s_feed fd tp (sc 3) b 4).2.1)) ((s_feed fd tp (sc 3) b 4).2.2.2) z it ws sz nu mv)) (t4_3 hs)).trans (congrArg (fun z => mct G (mpg d kp as bf (upd sc 3 ((s_feed fd tp (sc 3) b 4).2.1)) z (upd (upd (upd (upd tp (ix (sc 3)) (vp_nar .byte (b >>> (24 &&& 31)))) (ix (sc 3) + 1) (vp_nar .byte (b >>> (16 &&& 31)))) (ix (sc 3) + 2) (vp_nar .byte (b >>> (8 &&& 31)))) (ix (sc 3) + 3) (vp_nar .byte (b >>> (0 &&& 31)))) it ws sz nu mv)) (t4_4 hs))).trans (congrArg (fun z => mct G (mpg d kp as bf (upd sc 3 z) fd (upd (upd (upd (upd tp (ix (sc 3)) (vp_nar .byte (b >>> (24 &&& 31)))) (ix (sc 3) + 1) (vp_nar .byte (b >>> (16 &&& 31)))) (ix (sc 3) + 2) (vp_nar .byte (b >>> (8 &&& 31)))) (ix (sc 3) + 3) (vp_nar .byte (b >>> (0 &&& 31)))) it ws sz nu mv)) (t4_2 hs))).symm dX13_feed_81
    · refine lv_aload_n hx hb dX13_feed_27 rfl (lv_at hl 0 rfl) ?_
      refine lv_ldc (v := (-1000002)) hx hb hown (hts _ q1455) dX13_feed_28 ?_
      refine fc_V (As := [.int (-1000002)]) (rest := []) hx hb hml hown hts hX hC (m_X13_finding 1 (vin_b rfl)) (lw_V q1404 q1406 qs56 q124 q1407) hdV_X13_finding ⟨rfl, rfl⟩ ⟨Nat.le_of_ble_eq_true rfl, Nat.le_of_ble_eq_true rfl⟩ (fx_recv (g := 0) (i := 0) (ci := 0) (q := (RX13, TX13, 24)) hX hC (min_ (by decide)) rfl rfl) hl.1 rfl (Nat.le_of_ble_eq_true rfl) ⟨Nat.zero_le _, Nat.zero_le _⟩ dX13_feed_30 (fun _ H locs hC => ?_)
      refine W.eq (g2 := F0 m 33 ls [.int (-1000002)]) rfl ?_
      have hs : s_feed fd tp (sc 3) b n = (((-1000002), sc 3, tp, p_find fd 1) : Int32 × Int32 × Row × Row) := by rw [s_feed, if_pos c_2, if_pos c_3]
      exact fr_i hx hb hr hlocks hX hC () (congrArg (fun z => some (Value.int z)) (t4_1 hs)) ((((congrArg (fun z => mct G (mpg d kp as bf (upd sc 3 ((s_feed fd tp (sc 3) b n).2.1)) ((s_feed fd tp (sc 3) b n).2.2.2) z it ws sz nu mv)) (t4_3 hs)).trans (congrArg (fun z => mct G (mpg d kp as bf (upd sc 3 ((s_feed fd tp (sc 3) b n).2.1)) z tp it ws sz nu mv)) (t4_4 hs))).trans (congrArg (fun z => mct G (mpg d kp as bf (upd sc 3 z) (p_find fd 1) tp it ws sz nu mv)) (t4_2 hs))).trans (congrArg (fun z => mct G (mpg d kp as bf z (p_find fd 1) tp it ws sz nu mv)) (upd_id sc 3).symm)).symm dX13_feed_33
  · refine lv_aload_n hx hb dX13_feed_9 rfl (lv_at hl 0 rfl) ?_
    refine lv_ldc (v := (-1000001)) hx hb hown (hts _ q1403) dX13_feed_10 ?_
    refine fc_V (As := [.int (-1000001)]) (rest := []) hx hb hml hown hts hX hC (m_X13_finding 0 (vin_b rfl)) (lw_V q1404 q1406 qs56 q124 q1407) hdV_X13_finding ⟨rfl, rfl⟩ ⟨Nat.le_of_ble_eq_true rfl, Nat.le_of_ble_eq_true rfl⟩ (fx_recv (g := 0) (i := 0) (ci := 0) (q := (RX13, TX13, 24)) hX hC (min_ (by decide)) rfl rfl) hl.1 rfl (Nat.le_of_ble_eq_true rfl) ⟨Nat.zero_le _, Nat.zero_le _⟩ dX13_feed_12 (fun _ H locs hC => ?_)
    refine W.eq (g2 := F0 m 15 ls [.int (-1000001)]) rfl ?_
    have hs : s_feed fd tp (sc 3) b n = (((-1000001), sc 3, tp, p_find fd 0) : Int32 × Int32 × Row × Row) := by rw [s_feed, if_neg c_2]
    exact fr_i hx hb hr hlocks hX hC () (congrArg (fun z => some (Value.int z)) (t4_1 hs)) ((((congrArg (fun z => mct G (mpg d kp as bf (upd sc 3 ((s_feed fd tp (sc 3) b n).2.1)) ((s_feed fd tp (sc 3) b n).2.2.2) z it ws sz nu mv)) (t4_3 hs)).trans (congrArg (fun z => mct G (mpg d kp as bf (upd sc 3 ((s_feed fd tp (sc 3) b n).2.1)) z tp it ws sz nu mv)) (t4_4 hs))).trans (congrArg (fun z => mct G (mpg d kp as bf (upd sc 3 z) (p_find fd 0) tp it ws sz nu mv)) (t4_2 hs))).trans (congrArg (fun z => mct G (mpg d kp as bf z (p_find fd 0) tp it ws sz nu mv)) (upd_id sc 3).symm)).symm dX13_feed_15
