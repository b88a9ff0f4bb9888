theorem hdV_X0_areTicks : yX0_areTicks.cls = RX0 ∧ yX0_areTicks.cls ≠ "java/lang/invoke/MethodHandle" ∧ yX0_areTicks.cls ≠ "java/lang/invoke/VarHandle" ∧ (parseMethodDescriptor yX0_areTicks.desc).map (fun d => d.parameters.length) = some 2 := by decide +kernel
theorem hdV_X0_quietest : yX0_quietest.cls = RX0 ∧ yX0_quietest.cls ≠ "java/lang/invoke/MethodHandle" ∧ yX0_quietest.cls ≠ "java/lang/invoke/VarHandle" ∧ (parseMethodDescriptor yX0_quietest.desc).map (fun d => d.parameters.length) = some 2 := by decide +kernel
set_option maxRecDepth 100000 in
theorem m_X0_rhythm {l : Launch} {G : Gc} {d kp as un to sc fd tp sh : Row} {sp : Nat → Option Nat} (hw : WF d) (n k : Int32) : Cm l yX0_rhythm (ws_ yX0_rhythm cX0_rhythm 3 (some .int)) ({ frames := 7, cells := 0, slots := 0, locals := 178 }) (cF G) [.ref (G.ad 5 0), .int n, .int k] (cct G (pg d kp as un to sc fd tp sh) sp) (fun u : Row × Row => some (.int ((s_rhythm d fd sc n k).1))) (fun u => cct G (pg d kp u.1 u.2 to ((s_rhythm d fd sc n k).2.2) ((s_rhythm d fd sc n k).2.1) tp sh) sp) := by
  refine Cm.start (by decide) (Nat.le_of_ble_eq_true rfl) ?_
  intro p e s m below meth c hf hX hC ls hl
  obtain ⟨hx, hb, hr, hml, hown, hts, hlocks⟩ := hf
  have hl : lv_has ls 3 [(0, .ref (G.ad 5 0)), (1, .int n), (2, .int k)] := hl
  have hown : s.vm.findClass "OwlEars" = some m.cls := hown
  refine lv_aload_n hx hb dX0_rhythm_0 rfl (lv_at hl 0 rfl) ?_
  refine lv_iload_n hx hb dX0_rhythm_1 rfl (lv_at hl 1 rfl) ?_
  refine lv_iload_n hx hb dX0_rhythm_2 rfl (lv_at hl 2 rfl) ?_
  refine fc_V (As := [.int n, .int k]) (rest := []) hx hb hml hown hts hX hC (m_X0_areTicks n k) (lw_V q956 q958 qs25 q108 q959) hdV_X0_areTicks ⟨rfl, rfl⟩ ⟨Nat.le_of_ble_eq_true rfl, Nat.le_of_ble_eq_true rfl⟩ (fx_recv (g := 5) (i := 0) (ci := 1) (q := (RX0, TX0, 13)) hX hC (cin rfl) rfl rfl) hl.1 rfl (Nat.le_of_ble_eq_true rfl) ⟨Nat.zero_le _, Nat.zero_le _⟩ dX0_rhythm_3 (fun _ H locs hC => ?_)
  refine W.eq (g2 := F0 m 6 ls [.int (b2i (p_okTicks n k))]) rfl ?_
  refine fb_eq (tgt := 18) hx hb dX0_rhythm_6 (by decide) (fun c_2 => ?_) (fun c_2 => ?_)
  · refine lv_aload_n hx hb dX0_rhythm_18 rfl (lv_at hl 0 rfl) ?_
    refine lv_iconst (v := 0) hx hb dX0_rhythm_19 rfl ?_
    refine fc_V (As := [.int 0]) (rest := []) hx hb hml hown hts hX hC (m_X0_finding 0 (vin_b rfl)) (lw_V q472 q474 qs2 q108 q475) hdV_X0_finding ⟨rfl, rfl⟩ ⟨Nat.le_of_ble_eq_true rfl, Nat.le_of_ble_eq_true rfl⟩ (fx_recv (g := 5) (i := 0) (ci := 1) (q := (RX0, TX0, 13)) hX hC (cin rfl) rfl rfl) hl.1 rfl (Nat.le_of_ble_eq_true rfl) ⟨Nat.zero_le _, Nat.zero_le _⟩ dX0_rhythm_20 (fun _ H locs hC => ?_)
    refine W.eq (g2 := F0 m 23 ls [.int (-1000001)]) rfl ?_
    have hs : s_rhythm d fd sc n k = (((-1000001), p_find fd 0, sc) : Int32 × Row × Row) := by rw [s_rhythm, if_neg c_2]
    exact fr_i hx hb hr hlocks hX hC ⟨as, un⟩ (congrArg (fun z => some (Value.int z)) (t3_1 hs)) ((congrArg (fun z => cct G (pg d kp as un to ((s_rhythm d fd sc n k).2.2) z tp sh) sp) (t3_2 hs)).trans (congrArg (fun z => cct G (pg d kp as un to z (p_find fd 0) tp sh) sp) (t3_3 hs))).symm dX0_rhythm_23
  · refine lv_aload_n hx hb dX0_rhythm_9 rfl (lv_at hl 0 rfl) ?_
    refine lv_iload_n hx hb dX0_rhythm_10 rfl (lv_at hl 1 rfl) ?_
    refine lv_iload_n hx hb dX0_rhythm_11 rfl (lv_at hl 2 rfl) ?_
    refine fc_V (As := [.int n, .int k]) (rest := []) hx hb hml hown hts hX hC (m_X0_quietest hw n k) (lw_V q960 q962 qs26 q108 q963) hdV_X0_quietest ⟨rfl, rfl⟩ ⟨Nat.le_of_ble_eq_true rfl, Nat.le_of_ble_eq_true rfl⟩ (fx_recv (g := 5) (i := 0) (ci := 1) (q := (RX0, TX0, 13)) hX hC (cin rfl) rfl rfl) hl.1 rfl (Nat.le_of_ble_eq_true rfl) ⟨Nat.zero_le _, Nat.zero_le _⟩ dX0_rhythm_12 (fun u_4 H locs hC => ?_)
    refine W.eq (g2 := F0 m 15 ls [.int ((p_q d n k (sc 2) 90).1)]) rfl ?_
    refine lv_goto (tgt := 23) hx hb dX0_rhythm_15 (by decide) ?_
    have hs : s_rhythm d fd sc n k = (((p_q d n k (sc 2) 90).1, fd, upd sc 2 ((p_q d n k (sc 2) 90).2)) : Int32 × Row × Row) := by rw [s_rhythm, if_pos c_2, p_q_lh c_2 0 (sc 2) 89]
    exact fr_i hx hb hr hlocks hX hC ⟨u_4.1, u_4.2⟩ (congrArg (fun z => some (Value.int z)) (t3_1 hs)) ((congrArg (fun z => cct G (pg d kp u_4.1 u_4.2 to ((s_rhythm d fd sc n k).2.2) z tp sh) sp) (t3_2 hs)).trans (congrArg (fun z => cct G (pg d kp u_4.1 u_4.2 to z fd tp sh) sp) (t3_3 hs))).symm dX0_rhythm_23
set_option maxRecDepth 100000 in
theorem m_X0_least {l : Launch} {G : Gc} {d kp as un to sc fd tp sh : Row} {sp : Nat → Option Nat} (hw : WF d) (n k : Int32) : Cm l yX0_least (ws_ yX0_least cX0_least 4 (some .int)) ({ frames := 7, cells := 0, slots := 0, locals := 178 }) (cF G) [.ref (G.ad 5 0), .int n, .int k] (cct G (pg d kp as un to sc fd tp sh) sp) (fun u : Row × Row => some (.int ((s_least d fd sc n k).1))) (fun u => cct G (pg d kp u.1 u.2 to ((s_least d fd sc n k).2.2) ((s_least d fd sc n k).2.1) tp sh) sp) := by
  refine Cm.start (by decide) (Nat.le_of_ble_eq_true rfl) ?_
  intro p e s m below meth c hf hX hC ls hl
  obtain ⟨hx, hb, hr, hml, hown, hts, hlocks⟩ := hf
  have hl : lv_has ls 4 [(0, .ref (G.ad 5 0)), (1, .int n), (2, .int k)] := hl
  have hown : s.vm.findClass "OwlEars" = some m.cls := hown
  refine lv_aload_n hx hb dX0_least_0 rfl (lv_at hl 0 rfl) ?_
  refine lv_iload_n hx hb dX0_least_1 rfl (lv_at hl 1 rfl) ?_
  refine lv_iload_n hx hb dX0_least_2 rfl (lv_at hl 2 rfl) ?_
  refine fc_V (As := [.int n, .int k]) (rest := []) hx hb hml hown hts hX hC (m_X0_areTicks n k) (lw_V q956 q958 qs25 q108 q959) hdV_X0_areTicks ⟨rfl, rfl⟩ ⟨Nat.le_of_ble_eq_true rfl, Nat.le_of_ble_eq_true rfl⟩ (fx_recv (g := 5) (i := 0) (ci := 1) (q := (RX0, TX0, 13)) hX hC (cin rfl) rfl rfl) hl.1 rfl (Nat.le_of_ble_eq_true rfl) ⟨Nat.zero_le _, Nat.zero_le _⟩ dX0_least_3 (fun _ H locs hC => ?_)
  refine W.eq (g2 := F0 m 6 ls [.int (b2i (p_okTicks n k))]) rfl ?_
  refine fb_ne (tgt := 15) hx hb dX0_least_6 (by decide) (fun c_2 => ?_) (fun c_2 => ?_)
  · refine lv_aload_n hx hb dX0_least_15 rfl (lv_at hl 0 rfl) ?_
    refine lv_iload_n hx hb dX0_least_16 rfl (lv_at hl 1 rfl) ?_
    refine lv_iload_n hx hb dX0_least_17 rfl (lv_at hl 2 rfl) ?_
    refine fc_V (As := [.int n, .int k]) (rest := []) hx hb hml hown hts hX hC (m_X0_quietest hw n k) (lw_V q960 q962 qs26 q108 q963) hdV_X0_quietest ⟨rfl, rfl⟩ ⟨Nat.le_of_ble_eq_true rfl, Nat.le_of_ble_eq_true rfl⟩ (fx_recv (g := 5) (i := 0) (ci := 1) (q := (RX0, TX0, 13)) hX hC (cin rfl) rfl rfl) hl.1 rfl (Nat.le_of_ble_eq_true rfl) ⟨Nat.zero_le _, Nat.zero_le _⟩ dX0_least_18 (fun u_3 H locs hC => ?_)
    refine W.eq (g2 := F0 m 21 ls [.int ((p_q d n k (sc 2) 90).1)]) rfl ?_
    refine lv_istore_n (lv' := [(3, .int ((p_q d n k (sc 2) 90).1)), (0, .ref (G.ad 5 0)), (1, .int n), (2, .int k)]) hx hb dX0_least_21 rfl hl (by decide) rfl (fun ls hl => ?_)
    refine lv_aload_n hx hb dX0_least_22 rfl (lv_at hl 1 rfl) ?_
    refine fg_get (C := RX0) (T := TX0) (N := 13) (ci := 1) (g := 5) (i := 0) (v := .int ((p_q d n k (sc 2) 90).2)) hx hb hown hts hX hC in_X0 rfl (cin rfl) rfl 12 (by decide) q434 (fun _ h => h) rfl dX0_least_23 ?_
    have hs : s_least d fd sc n k = (((p_q d n k (sc 2) 90).2, fd, upd sc 2 ((p_q d n k (sc 2) 90).2)) : Int32 × Row × Row) := by rw [s_least, if_pos c_2, p_q_lh c_2 0 (sc 2) 89]
    exact fr_i hx hb hr hlocks hX hC ⟨u_3.1, u_3.2⟩ (congrArg (fun z => some (Value.int z)) (t3_1 hs)) ((congrArg (fun z => cct G (pg d kp u_3.1 u_3.2 to ((s_least d fd sc n k).2.2) z tp sh) sp) (t3_2 hs)).trans (congrArg (fun z => cct G (pg d kp u_3.1 u_3.2 to z fd tp sh) sp) (t3_3 hs))).symm dX0_least_26
  · refine lv_aload_n hx hb dX0_least_9 rfl (lv_at hl 0 rfl) ?_
    refine lv_iconst (v := 0) hx hb dX0_least_10 rfl ?_
    refine fc_V (As := [.int 0]) (rest := []) hx hb hml hown hts hX hC (m_X0_finding 0 (vin_b rfl)) (lw_V q472 q474 qs2 q108 q475) hdV_X0_finding ⟨rfl, rfl⟩ ⟨Nat.le_of_ble_eq_true rfl, Nat.le_of_ble_eq_true rfl⟩ (fx_recv (g := 5) (i := 0) (ci := 1) (q := (RX0, TX0, 13)) hX hC (cin rfl) rfl rfl) hl.1 rfl (Nat.le_of_ble_eq_true rfl) ⟨Nat.zero_le _, Nat.zero_le _⟩ dX0_least_11 (fun _ H locs hC => ?_)
    refine W.eq (g2 := F0 m 14 ls [.int (-1000001)]) rfl ?_
    have hs : s_least d fd sc n k = (((-1000001), p_find fd 0, sc) : Int32 × Row × Row) := by rw [s_least, if_neg c_2]
    exact fr_i hx hb hr hlocks hX hC ⟨as, un⟩ (congrArg (fun z => some (Value.int z)) (t3_1 hs)) ((congrArg (fun z => cct G (pg d kp as un to ((s_least d fd sc n k).2.2) z tp sh) sp) (t3_2 hs)).trans (congrArg (fun z => cct G (pg d kp as un to z (p_find fd 0) tp sh) sp) (t3_3 hs))).symm dX0_least_14
