theorem hdV_X0_runsIn : yX0_runsIn.cls = RX0 ∧ yX0_runsIn.cls ≠ "java/lang/invoke/MethodHandle" ∧ yX0_runsIn.cls ≠ "java/lang/invoke/VarHandle" ∧ (parseMethodDescriptor yX0_runsIn.desc).map (fun d => d.parameters.length) = some 1 := by decide +kernel
theorem hdV_X0_heardBy : yX0_heardBy.cls = RX0 ∧ yX0_heardBy.cls ≠ "java/lang/invoke/MethodHandle" ∧ yX0_heardBy.cls ≠ "java/lang/invoke/VarHandle" ∧ (parseMethodDescriptor yX0_heardBy.desc).map (fun d => d.parameters.length) = some 3 := by decide +kernel
set_option maxRecDepth 100000 in
theorem m_X0_heardBy {l : Launch} {G : Gc} {d kp as un to sc fd tp sh : Row} {sp : Nat → Option Nat} (hw : WF d) (r n k : Int32) (hwr : WF (p_rh d r)) : Cm l yX0_heardBy (wsW_ yX0_heardBy cX0_heardBy 6 (some .int) [(11, 67, 81, 0), (81, 83, 81, 0)]) ({ frames := 5, cells := 0, slots := 0, locals := 127 }) (cF G) [.ref (G.ad 5 0), .int r, .int n, .int k] (cct G (pg d kp as un to sc fd tp sh) sp) (fun u : Row => some (.int (p_by d r n k))) (fun u => cct G (pg d kp u d to sc fd tp sh) sp) := by
  refine Cm.startW (by decide) (Nat.le_of_ble_eq_true rfl) ?_
  intro p e s m below meth c hf hX hC ls hl
  obtain ⟨hx, hb, hr, hml, hown, hts, hlocks⟩ := hf
  have hl : lv_has ls 6 [(0, .ref (G.ad 5 0)), (1, .int r), (2, .int n), (3, .int k)] := hl
  have hown : s.vm.findClass "OwlEars" = some m.cls := hown
  refine lv_aload_n hx hb dX0_heardBy_0 rfl (lv_at hl 0 rfl) ?_
  refine fg_get (C := RX0) (T := TX0) (N := 13) (ci := 1) (g := 5) (i := 0) (v := .ref (G.ad 3 0)) hx hb hown hts hX hC in_X0 rfl (cin rfl) rfl 6 (by decide) q428 (fun _ h => h) rfl dX0_heardBy_1 ?_
  refine lv_aload_n hx hb dX0_heardBy_4 rfl (lv_at hl 0 rfl) ?_
  refine fg_get (C := RX0) (T := TX0) (N := 13) (ci := 1) (g := 5) (i := 0) (v := .ref (G.ad 0 0)) hx hb hown hts hX hC in_X0 rfl (cin rfl) rfl 3 (by decide) q425 (fun _ h => h) rfl dX0_heardBy_5 ?_
  refine fc_V (As := [.ref (G.ad 0 0)]) (rest := []) hx hb hml hown hts hX hC (m_X4_become_30) (lw_V q700 q701 q702 q115 q703) hdV_X4_become ⟨rfl, rfl⟩ ⟨Nat.le_of_ble_eq_true rfl, Nat.le_of_ble_eq_true rfl⟩ (fx_recv (g := 3) (i := 0) (ci := 0) (q := (RX4, TX4, 9)) hX hC (cin rfl) rfl rfl) hl.1 rfl (Nat.le_of_ble_eq_true rfl) ⟨Nat.zero_le _, Nat.zero_le _⟩ dX0_heardBy_8 (fun _ H locs hC => ?_)
  refine W.eq (g2 := F0 m 11 ls []) rfl ?_
  refine lv_aload_n hx hb dX0_heardBy_11 rfl (lv_at hl 0 rfl) ?_
  refine fg_get (C := RX0) (T := TX0) (N := 13) (ci := 1) (g := 5) (i := 0) (v := .ref (G.ad 0 0)) hx hb hown hts hX hC in_X0 rfl (cin rfl) rfl 3 (by decide) q425 (fun _ h => h) rfl dX0_heardBy_12 ?_
  refine fg_getN (C := RX4) (T := TX4) (N := 9) (ci := 0) (g := 0) (i := 0) (v := .ref (G.ad 0 3)) hx hb hown hts hX hC in_X4 rfl (cin rfl) rfl 2 (by decide) (hX.2.2.1.F q246) (fun _ h => h) rfl dX0_heardBy_15 ?_
  refine lv_iconst (v := 2) hx hb dX0_heardBy_18 rfl ?_
  refine lv_iload_n hx hb dX0_heardBy_19 rfl (lv_at hl 1 rfl) ?_
  refine lv_bipush (v := 10) hx hb dX0_heardBy_20 rfl ?_
  refine lv_idiv hx hb dX0_heardBy_22 (by decide) ?_
  refine fg_iast (g := 0) (i := 3) (t0 := 0) hx hb hX hC (cin rfl) rfl rfl (vin_b rfl) (cct G (pg (upd d 5 (r / 10)) kp as d to sc fd tp sh) sp) (cs_mouse (k := 2) (by decide)) dX0_heardBy_23 (fun H locs hC => ?_)
  refine lv_aload_n hx hb dX0_heardBy_24 rfl (lv_at hl 0 rfl) ?_
  refine fg_get (C := RX0) (T := TX0) (N := 13) (ci := 1) (g := 5) (i := 0) (v := .ref (G.ad 0 0)) hx hb hown hts hX hC in_X0 rfl (cin rfl) rfl 3 (by decide) q425 (fun _ h => h) rfl dX0_heardBy_25 ?_
  refine fg_getN (C := RX4) (T := TX4) (N := 9) (ci := 0) (g := 0) (i := 0) (v := .ref (G.ad 0 3)) hx hb hown hts hX hC in_X4 rfl (cin rfl) rfl 2 (by decide) (hX.2.2.1.F q246) (fun _ h => h) rfl dX0_heardBy_28 ?_
  refine lv_iconst (v := 3) hx hb dX0_heardBy_31 rfl ?_
  refine lv_iload_n hx hb dX0_heardBy_32 rfl (lv_at hl 1 rfl) ?_
  refine lv_bipush (v := 10) hx hb dX0_heardBy_33 rfl ?_
  refine fw_irem hx hb dX0_heardBy_35 (by decide) ?_
  refine fg_iast (g := 0) (i := 3) (t0 := 0) hx hb hX hC (cin rfl) rfl rfl (vin_b rfl) (cct G (pg (upd (upd d 5 (r / 10)) 6 (rm r 10)) kp as d to sc fd tp sh) sp) (cs_mouse (k := 3) (by decide)) dX0_heardBy_36 (fun H locs hC => ?_)
  refine lv_aload_n hx hb dX0_heardBy_37 rfl (lv_at hl 0 rfl) ?_
  refine fg_get (C := RX0) (T := TX0) (N := 13) (ci := 1) (g := 5) (i := 0) (v := .ref (G.ad 0 0)) hx hb hown hts hX hC in_X0 rfl (cin rfl) rfl 3 (by decide) q425 (fun _ h => h) rfl dX0_heardBy_38 ?_
  refine fg_getN (C := RX4) (T := TX4) (N := 9) (ci := 0) (g := 0) (i := 0) (v := .ref (G.ad 0 3)) hx hb hown hts hX hC in_X4 rfl (cin rfl) rfl 2 (by decide) (hX.2.2.1.F q246) (fun _ h => h) rfl dX0_heardBy_41 ?_
  refine lv_iconst (v := 4) hx hb dX0_heardBy_44 rfl ?_
  refine lv_iconst (v := 0) hx hb dX0_heardBy_45 rfl ?_
  refine fg_iast (g := 0) (i := 3) (t0 := 0) hx hb hX hC (cin rfl) rfl rfl (vin_b rfl) (cct G (pg (upd (upd (upd d 5 (r / 10)) 6 (rm r 10)) 7 0) kp as d to sc fd tp sh) sp) (cs_mouse (k := 4) (by decide)) dX0_heardBy_46 (fun H locs hC => ?_)
  refine lv_aload_n hx hb dX0_heardBy_47 rfl (lv_at hl 0 rfl) ?_
  refine lv_iload_n hx hb dX0_heardBy_48 rfl (lv_at hl 2 rfl) ?_
  refine fc_V (As := [.int n]) (rest := []) hx hb hml hown hts hX hC (m_X0_runsIn hwr n) (lw_V q968 q970 qs28 q108 q971) hdV_X0_runsIn ⟨rfl, rfl⟩ ⟨Nat.le_of_ble_eq_true rfl, Nat.le_of_ble_eq_true rfl⟩ (fx_recv (g := 5) (i := 0) (ci := 1) (q := (RX0, TX0, 13)) hX hC (cin rfl) rfl rfl) hl.1 rfl (Nat.le_of_ble_eq_true rfl) ⟨Nat.zero_le _, Nat.zero_le _⟩ dX0_heardBy_49 (fun _ H locs hC => ?_)
  refine W.eq (g2 := F0 m 52 ls [.int (p_runs (upd (upd (upd d 5 (r / 10)) 6 (rm r 10)) 7 0) (ix n))]) rfl ?_
  refine lv_iload_n hx hb dX0_heardBy_52 rfl (lv_at hl 3 rfl) ?_
  refine fj_ge (tgt := 60) hx hb dX0_heardBy_53 (by decide) (fun c_3 => ?_) (fun c_3 => ?_)
  · refine lv_aload_n hx hb dX0_heardBy_60 rfl (lv_at hl 0 rfl) ?_
    refine lv_iload_n hx hb dX0_heardBy_61 rfl (lv_at hl 2 rfl) ?_
    refine fc_VW (As := [.int n]) (rest := []) hx hb hml hown hts hX hC (m_X0_heardIn hwr n) (lw_VW q856 q858 qs15 q108 q859) hdV_X0_heardIn ⟨rfl, rfl⟩ ⟨Nat.le_of_ble_eq_true rfl, Nat.le_of_ble_eq_true rfl⟩ (fx_recv (g := 5) (i := 0) (ci := 1) (q := (RX0, TX0, 13)) hX hC (cin rfl) rfl rfl) hl.1 rfl (Nat.le_of_ble_eq_true rfl) ⟨Nat.zero_le _, Nat.zero_le _⟩ dX0_heardBy_62 (fun _ H locs hC => ?_)
    refine W.eq (g2 := F0 m 65 ls [.int (p_heard (upd (upd (upd d 5 (r / 10)) 6 (rm r 10)) 7 0) (ix n))]) rfl ?_
    refine lv_istore (lv' := [(4, .int (p_heard (upd (upd (upd d 5 (r / 10)) 6 (rm r 10)) 7 0) (ix n))), (0, .ref (G.ad 5 0)), (1, .int r), (2, .int n), (3, .int k)]) hx hb dX0_heardBy_65 hl (by decide) rfl (fun ls hl => ?_)
    refine lv_aload_n hx hb dX0_heardBy_67 rfl (lv_at hl 1 rfl) ?_
    refine fg_get (C := RX0) (T := TX0) (N := 13) (ci := 1) (g := 5) (i := 0) (v := .ref (G.ad 0 0)) hx hb hown hts hX hC in_X0 rfl (cin rfl) rfl 3 (by decide) q425 (fun _ h => h) rfl dX0_heardBy_68 ?_
    refine lv_aload_n hx hb dX0_heardBy_71 rfl (lv_at hl 1 rfl) ?_
    refine fg_get (C := RX0) (T := TX0) (N := 13) (ci := 1) (g := 5) (i := 0) (v := .ref (G.ad 3 0)) hx hb hown hts hX hC in_X0 rfl (cin rfl) rfl 6 (by decide) q428 (fun _ h => h) rfl dX0_heardBy_72 ?_
    refine fc_V (As := [.ref (G.ad 3 0)]) (rest := []) hx hb hml hown hts hX hC (m_X4_become_03) (lw_V q700 q701 q702 q115 q703) hdV_X4_become ⟨rfl, rfl⟩ ⟨Nat.le_of_ble_eq_true rfl, Nat.le_of_ble_eq_true rfl⟩ (fx_recv (g := 0) (i := 0) (ci := 0) (q := (RX4, TX4, 9)) hX hC (cin rfl) rfl rfl) hl.1 rfl (Nat.le_of_ble_eq_true rfl) ⟨Nat.zero_le _, Nat.zero_le _⟩ dX0_heardBy_75 (fun _ H locs hC => ?_)
    refine W.eq (g2 := F0 m 78 ls []) rfl ?_
    refine lv_iload hx hb dX0_heardBy_78 (lv_at hl 0 rfl) ?_
    exact fr_i hx hb hr hlocks hX hC (upd (upd (upd d 5 (r / 10)) 6 (rm r 10)) 7 0) (congrArg (fun z => some (Value.int z)) (if_neg c_3)) rfl dX0_heardBy_80
  · refine lv_iconst (v := (-1)) hx hb dX0_heardBy_56 rfl ?_
    refine lv_goto (tgt := 65) hx hb dX0_heardBy_57 (by decide) ?_
    refine lv_istore (lv' := [(4, .int (-1)), (0, .ref (G.ad 5 0)), (1, .int r), (2, .int n), (3, .int k)]) hx hb dX0_heardBy_65 hl (by decide) rfl (fun ls hl => ?_)
    refine lv_aload_n hx hb dX0_heardBy_67 rfl (lv_at hl 1 rfl) ?_
    refine fg_get (C := RX0) (T := TX0) (N := 13) (ci := 1) (g := 5) (i := 0) (v := .ref (G.ad 0 0)) hx hb hown hts hX hC in_X0 rfl (cin rfl) rfl 3 (by decide) q425 (fun _ h => h) rfl dX0_heardBy_68 ?_
    refine lv_aload_n hx hb dX0_heardBy_71 rfl (lv_at hl 1 rfl) ?_
    refine fg_get (C := RX0) (T := TX0) (N := 13) (ci := 1) (g := 5) (i := 0) (v := .ref (G.ad 3 0)) hx hb hown hts hX hC in_X0 rfl (cin rfl) rfl 6 (by decide) q428 (fun _ h => h) rfl dX0_heardBy_72 ?_
    refine fc_V (As := [.ref (G.ad 3 0)]) (rest := []) hx hb hml hown hts hX hC (m_X4_become_03) (lw_V q700 q701 q702 q115 q703) hdV_X4_become ⟨rfl, rfl⟩ ⟨Nat.le_of_ble_eq_true rfl, Nat.le_of_ble_eq_true rfl⟩ (fx_recv (g := 0) (i := 0) (ci := 0) (q := (RX4, TX4, 9)) hX hC (cin rfl) rfl rfl) hl.1 rfl (Nat.le_of_ble_eq_true rfl) ⟨Nat.zero_le _, Nat.zero_le _⟩ dX0_heardBy_75 (fun _ H locs hC => ?_)
    refine W.eq (g2 := F0 m 78 ls []) rfl ?_
    refine lv_iload hx hb dX0_heardBy_78 (lv_at hl 0 rfl) ?_
    exact fr_i hx hb hr hlocks hX hC as (congrArg (fun z => some (Value.int z)) (if_pos c_3)) rfl dX0_heardBy_80
set_option maxRecDepth 100000 in
theorem m_X0_quietest {l : Launch} {G : Gc} {d kp as un to sc fd tp sh : Row} {sp : Nat → Option Nat} (hw : WF d) (n k : Int32) : Cm l yX0_quietest (ws_ yX0_quietest cX0_quietest 7 (some .int)) ({ frames := 6, cells := 0, slots := 0, locals := 152 }) (cF G) [.ref (G.ad 5 0), .int n, .int k] (cct G (pg d kp as un to sc fd tp sh) sp) (fun u : Row × Row => some (.int ((p_q d n k (sc 2) 90).1))) (fun u => cct G (pg d kp u.1 u.2 to (upd sc 2 ((p_q d n k (sc 2) 90).2)) fd tp sh) sp) := by
  refine Cm.start (by decide) (Nat.le_of_ble_eq_true rfl) ?_
  intro p e s m below meth c hf hX hC ls hl
  obtain ⟨hx, hb, hr, hml, hown, hts, hlocks⟩ := hf
  have hl : lv_has ls 7 [(0, .ref (G.ad 5 0)), (1, .int n), (2, .int k)] := hl
  have hown : s.vm.findClass "OwlEars" = some m.cls := hown
  refine lv_iconst (v := (-1)) hx hb dX0_quietest_0 rfl ?_
  refine lv_istore_n (lv' := [(3, .int (-1)), (0, .ref (G.ad 5 0)), (1, .int n), (2, .int k)]) hx hb dX0_quietest_1 rfl hl (by decide) rfl (fun ls hl => ?_)
  refine lv_bipush (v := 10) hx hb dX0_quietest_2 rfl ?_
  refine lv_istore (lv' := [(4, .int 10), (3, .int (-1)), (0, .ref (G.ad 5 0)), (1, .int n), (2, .int k)]) hx hb dX0_quietest_4 hl (by decide) rfl (fun ls hl => ?_)
  have L_1 : ∀ (k1 i1 : Nat), i1 + k1 = 90 → ∀ (as1 : Row) (un1 : Row) (H : Heap) (locs : List Loc), fC (cF G) (cct G (pg d kp as1 un1 to (upd sc 2 ((p_q d n k (sc 2) i1).2)) fd tp sh) sp) s.heap H locs → ∀ ls : Array Slot, lv_has ls 7 [(0, .ref (G.ad 5 0)), (1, .int n), (2, .int k), (3, .int ((p_q d n k (sc 2) i1).1)), (4, .int (nI (10 + i1)))] → WG p l e ({ frames := 6, cells := 0, slots := 0, locals := 152 }) s m (([.ref (G.ad 5 0), .int n, .int k] : List Value).toArray) below meth c H locs (cF G) (fun u : Row × Row => some (.int ((p_q d n k (sc 2) 90).1))) (fun u => cct G (pg d kp u.1 u.2 to (upd sc 2 ((p_q d n k (sc 2) 90).2)) fd tp sh) sp) (F0 m 6 ls []) := by
    intro k1
    induction k1 with
    | zero =>
      intro i1 hi1 as1 un1 H locs hC ls hl
      obtain rfl : i1 = 90 := by omega
      refine lv_iload hx hb dX0_quietest_6 (lv_at hl 4 rfl) ?_
      refine lv_bipush (v := 100) hx hb dX0_quietest_8 rfl ?_
      refine fj_ge (tgt := 86) hx hb dX0_quietest_10 (by decide) (fun _ => ?_) (fun z_2 => absurd z_2 (by decide))
      refine lv_iload_n hx hb dX0_quietest_86 rfl (lv_at hl 3 rfl) ?_
      exact fr_i hx hb hr hlocks hX hC ⟨as1, un1⟩ rfl rfl dX0_quietest_87
    | succ k1 ih1 =>
      intro i1 hi1 as1 un1 H locs hC ls hl
      refine lv_iload hx hb dX0_quietest_6 (lv_at hl 4 rfl) ?_
      refine lv_bipush (v := 100) hx hb dX0_quietest_8 rfl ?_
      refine fj_ge (tgt := 86) hx hb dX0_quietest_10 (by decide) (fun z_3 => absurd (lt_ix (n := 100) (show 10 + i1 < 100 by omega)) z_3) (fun _ => ?_)
      refine lv_aload_n hx hb dX0_quietest_13 rfl (lv_at hl 0 rfl) ?_
      refine lv_iload hx hb dX0_quietest_14 (lv_at hl 4 rfl) ?_
      refine lv_iload_n hx hb dX0_quietest_16 rfl (lv_at hl 1 rfl) ?_
      refine lv_iload_n hx hb dX0_quietest_17 rfl (lv_at hl 2 rfl) ?_
      refine fc_VW (As := [.int (nI (10 + i1)), .int n, .int k]) (rest := []) hx hb hml hown hts hX hC (m_X0_heardBy hw (nI (10 + i1)) n k (hw.rh (show i1 < 90 by omega))) (lw_VW q964 q966 qs27 q108 q967) hdV_X0_heardBy ⟨rfl, rfl⟩ ⟨Nat.le_of_ble_eq_true rfl, Nat.le_of_ble_eq_true rfl⟩ (fx_recv (g := 5) (i := 0) (ci := 1) (q := (RX0, TX0, 13)) hX hC (cin rfl) rfl rfl) hl.1 rfl (Nat.le_of_ble_eq_true rfl) ⟨Nat.zero_le _, Nat.zero_le _⟩ dX0_quietest_18 (fun u_4 H locs hC => ?_)
      refine W.eq (g2 := F0 m 21 ls [.int (p_by d (nI (10 + i1)) n k)]) rfl ?_
      refine lv_istore (lv' := [(5, .int (p_by d (nI (10 + i1)) n k)), (0, .ref (G.ad 5 0)), (1, .int n), (2, .int k), (3, .int ((p_q d n k (sc 2) i1).1)), (4, .int (nI (10 + i1)))]) hx hb dX0_quietest_21 hl (by decide) rfl (fun ls hl => ?_)
      refine lv_iload hx hb dX0_quietest_23 (lv_at hl 0 rfl) ?_
      refine lv_iconst (v := (-1)) hx hb dX0_quietest_25 rfl ?_
      refine lv_icmp_eq (tgt := 47) hx hb dX0_quietest_26 (by decide) (fun c_5 => ?_) (fun c_5 => ?_)
      · refine lv_iconst (v := 0) hx hb dX0_quietest_47 rfl ?_
        refine lv_istore (lv' := [(6, .int 0), (5, .int (p_by d (nI (10 + i1)) n k)), (0, .ref (G.ad 5 0)), (1, .int n), (2, .int k), (3, .int ((p_q d n k (sc 2) i1).1)), (4, .int (nI (10 + i1)))]) hx hb dX0_quietest_48 hl (by decide) rfl (fun ls hl => ?_)
        refine lv_iload hx hb dX0_quietest_50 (lv_at hl 0 rfl) ?_
        refine lv_if_eq (tgt := 60) hx hb dX0_quietest_52 (by decide) (fun _ => ?_) (fun z_6 => absurd (by decide) z_6)
        refine lv_iload_n hx hb dX0_quietest_60 rfl (lv_at hl 5 rfl) ?_
        refine lv_istore_n (lv' := [(3, .int ((p_q d n k (sc 2) i1).1)), (6, .int 0), (5, .int (p_by d (nI (10 + i1)) n k)), (0, .ref (G.ad 5 0)), (1, .int n), (2, .int k), (4, .int (nI (10 + i1)))]) hx hb dX0_quietest_61 rfl hl (by decide) rfl (fun ls hl => ?_)
        refine lv_aload_n hx hb dX0_quietest_62 rfl (lv_at hl 3 rfl) ?_
        refine lv_iload hx hb dX0_quietest_63 (lv_at hl 1 rfl) ?_
        refine lv_if_eq (tgt := 73) hx hb dX0_quietest_65 (by decide) (fun _ => ?_) (fun z_7 => absurd (by decide) z_7)
        refine lv_aload_n hx hb dX0_quietest_73 rfl (lv_at hl 3 rfl) ?_
        refine fg_get (C := RX0) (T := TX0) (N := 13) (ci := 1) (g := 5) (i := 0) (v := .int ((p_q d n k (sc 2) i1).2)) hx hb hown hts hX hC in_X0 rfl (cin rfl) rfl 12 (by decide) q434 (fun _ h => h) rfl dX0_quietest_74 ?_
        refine fg_put (C := RX0) (T := TX0) (N := 13) (ci := 1) (g := 5) (i := 0) hx hb hown hts hX hC in_X0 tyX0 tyX0_ok nmX0 rfl (cin rfl) rfl 12 (by decide) q434 (fun _ h => h) rfl rfl rfl (Nat.le_of_ble_eq_true rfl) (cct G (pg d kp u_4 d to (upd (upd sc 2 ((p_q d n k (sc 2) i1).2)) 2 ((p_q d n k (sc 2) i1).2)) fd tp sh) sp) cs_sc2 dX0_quietest_77 (fun H locs hC => ?_)
        refine lv_iinc (v := nI (10 + i1 + 1)) (lv' := [(4, .int (nI (10 + i1 + 1))), (3, .int ((p_q d n k (sc 2) i1).1)), (6, .int 0), (5, .int (p_by d (nI (10 + i1)) n k)), (0, .ref (G.ad 5 0)), (1, .int n), (2, .int k)]) hx hb dX0_quietest_80 hl (k := 6) rfl (nI_1 _) (by decide) rfl (fun ls hl => ?_)
        refine lv_goto (tgt := 6) hx hb dX0_quietest_83 (by decide) ?_
        have hC := (congrArg (fun z => fC (cF G) (cct G (pg d kp u_4 d to z fd tp sh) sp) s.heap _ _) (upd_uu sc 2 ((p_q d n k (sc 2) i1).2) ((p_q d n k (sc 2) i1).2))).mp hC
        have hq : p_q d n k (sc 2) (i1 + 1) = ((p_q d n k (sc 2) i1).1, (p_q d n k (sc 2) i1).2) := by grind [p_q]
        rw [← t2_2 hq] at hC
        rw [← t2_1 hq] at hl
        exact ih1 (i1 + 1) (by omega) _ _ _ _ hC ls (lv_sub hl [4, 5, 6, 1, 0] rfl)
      · refine lv_iload_n hx hb dX0_quietest_29 rfl (lv_at hl 4 rfl) ?_
        refine lv_iconst (v := (-1)) hx hb dX0_quietest_30 rfl ?_
        refine lv_icmp_eq (tgt := 43) hx hb dX0_quietest_31 (by decide) (fun c_8 => ?_) (fun c_8 => ?_)
        · refine lv_iconst (v := 1) hx hb dX0_quietest_43 rfl ?_
          refine lv_goto (tgt := 48) hx hb dX0_quietest_44 (by decide) ?_
          refine lv_istore (lv' := [(6, .int 1), (5, .int (p_by d (nI (10 + i1)) n k)), (0, .ref (G.ad 5 0)), (1, .int n), (2, .int k), (3, .int ((p_q d n k (sc 2) i1).1)), (4, .int (nI (10 + i1)))]) hx hb dX0_quietest_48 hl (by decide) rfl (fun ls hl => ?_)
          refine lv_iload hx hb dX0_quietest_50 (lv_at hl 0 rfl) ?_
          refine lv_if_eq (tgt := 60) hx hb dX0_quietest_52 (by decide) (fun z_9 => absurd z_9 (by decide)) (fun _ => ?_)
          refine lv_iload hx hb dX0_quietest_55 (lv_at hl 6 rfl) ?_
          refine lv_goto (tgt := 61) hx hb dX0_quietest_57 (by decide) ?_
          refine lv_istore_n (lv' := [(3, .int (nI (10 + i1))), (6, .int 1), (5, .int (p_by d (nI (10 + i1)) n k)), (0, .ref (G.ad 5 0)), (1, .int n), (2, .int k), (4, .int (nI (10 + i1)))]) hx hb dX0_quietest_61 rfl hl (by decide) rfl (fun ls hl => ?_)
          refine lv_aload_n hx hb dX0_quietest_62 rfl (lv_at hl 3 rfl) ?_
          refine lv_iload hx hb dX0_quietest_63 (lv_at hl 1 rfl) ?_
          refine lv_if_eq (tgt := 73) hx hb dX0_quietest_65 (by decide) (fun z_10 => absurd z_10 (by decide)) (fun _ => ?_)
          refine lv_iload hx hb dX0_quietest_68 (lv_at hl 2 rfl) ?_
          refine lv_goto (tgt := 77) hx hb dX0_quietest_70 (by decide) ?_
          refine fg_put (C := RX0) (T := TX0) (N := 13) (ci := 1) (g := 5) (i := 0) hx hb hown hts hX hC in_X0 tyX0 tyX0_ok nmX0 rfl (cin rfl) rfl 12 (by decide) q434 (fun _ h => h) rfl rfl rfl (Nat.le_of_ble_eq_true rfl) (cct G (pg d kp u_4 d to (upd (upd sc 2 ((p_q d n k (sc 2) i1).2)) 2 (p_by d (nI (10 + i1)) n k)) fd tp sh) sp) cs_sc2 dX0_quietest_77 (fun H locs hC => ?_)
          refine lv_iinc (v := nI (10 + i1 + 1)) (lv' := [(4, .int (nI (10 + i1 + 1))), (3, .int (nI (10 + i1))), (6, .int 1), (5, .int (p_by d (nI (10 + i1)) n k)), (0, .ref (G.ad 5 0)), (1, .int n), (2, .int k)]) hx hb dX0_quietest_80 hl (k := 6) rfl (nI_1 _) (by decide) rfl (fun ls hl => ?_)
          refine lv_goto (tgt := 6) hx hb dX0_quietest_83 (by decide) ?_
          have hC := (congrArg (fun z => fC (cF G) (cct G (pg d kp u_4 d to z fd tp sh) sp) s.heap _ _) (upd_uu sc 2 ((p_q d n k (sc 2) i1).2) (p_by d (nI (10 + i1)) n k))).mp hC
          have hq : p_q d n k (sc 2) (i1 + 1) = (nI (10 + i1), p_by d (nI (10 + i1)) n k) := by grind [p_q]
          rw [← t2_2 hq] at hC
          rw [← t2_1 hq] at hl
          exact ih1 (i1 + 1) (by omega) _ _ _ _ hC ls (lv_sub hl [4, 5, 6, 1, 0] rfl)
        · refine lv_iload hx hb dX0_quietest_34 (lv_at hl 0 rfl) ?_
          refine lv_aload_n hx hb dX0_quietest_36 rfl (lv_at hl 1 rfl) ?_
          refine fg_get (C := RX0) (T := TX0) (N := 13) (ci := 1) (g := 5) (i := 0) (v := .int ((p_q d n k (sc 2) i1).2)) hx hb hown hts hX hC in_X0 rfl (cin rfl) rfl 12 (by decide) q434 (fun _ h => h) rfl dX0_quietest_37 ?_
          refine fj_ge (tgt := 47) hx hb dX0_quietest_40 (by decide) (fun c_11 => ?_) (fun c_11 => ?_)
          · refine lv_iconst (v := 0) hx hb dX0_quietest_47 rfl ?_
            refine lv_istore (lv' := [(6, .int 0), (5, .int (p_by d (nI (10 + i1)) n k)), (0, .ref (G.ad 5 0)), (1, .int n), (2, .int k), (3, .int ((p_q d n k (sc 2) i1).1)), (4, .int (nI (10 + i1)))]) hx hb dX0_quietest_48 hl (by decide) rfl (fun ls hl => ?_)
            refine lv_iload hx hb dX0_quietest_50 (lv_at hl 0 rfl) ?_
            refine lv_if_eq (tgt := 60) hx hb dX0_quietest_52 (by decide) (fun _ => ?_) (fun z_12 => absurd (by decide) z_12)
            refine lv_iload_n hx hb dX0_quietest_60 rfl (lv_at hl 5 rfl) ?_
            refine lv_istore_n (lv' := [(3, .int ((p_q d n k (sc 2) i1).1)), (6, .int 0), (5, .int (p_by d (nI (10 + i1)) n k)), (0, .ref (G.ad 5 0)), (1, .int n), (2, .int k), (4, .int (nI (10 + i1)))]) hx hb dX0_quietest_61 rfl hl (by decide) rfl (fun ls hl => ?_)
            refine lv_aload_n hx hb dX0_quietest_62 rfl (lv_at hl 3 rfl) ?_
            refine lv_iload hx hb dX0_quietest_63 (lv_at hl 1 rfl) ?_
            refine lv_if_eq (tgt := 73) hx hb dX0_quietest_65 (by decide) (fun _ => ?_) (fun z_13 => absurd (by decide) z_13)
            refine lv_aload_n hx hb dX0_quietest_73 rfl (lv_at hl 3 rfl) ?_
            refine fg_get (C := RX0) (T := TX0) (N := 13) (ci := 1) (g := 5) (i := 0) (v := .int ((p_q d n k (sc 2) i1).2)) hx hb hown hts hX hC in_X0 rfl (cin rfl) rfl 12 (by decide) q434 (fun _ h => h) rfl dX0_quietest_74 ?_
            refine fg_put (C := RX0) (T := TX0) (N := 13) (ci := 1) (g := 5) (i := 0) hx hb hown hts hX hC in_X0 tyX0 tyX0_ok nmX0 rfl (cin rfl) rfl 12 (by decide) q434 (fun _ h => h) rfl rfl rfl (Nat.le_of_ble_eq_true rfl) (cct G (pg d kp u_4 d to (upd (upd sc 2 ((p_q d n k (sc 2) i1).2)) 2 ((p_q d n k (sc 2) i1).2)) fd tp sh) sp) cs_sc2 dX0_quietest_77 (fun H locs hC => ?_)
            refine lv_iinc (v := nI (10 + i1 + 1)) (lv' := [(4, .int (nI (10 + i1 + 1))), (3, .int ((p_q d n k (sc 2) i1).1)), (6, .int 0), (5, .int (p_by d (nI (10 + i1)) n k)), (0, .ref (G.ad 5 0)), (1, .int n), (2, .int k)]) hx hb dX0_quietest_80 hl (k := 6) rfl (nI_1 _) (by decide) rfl (fun ls hl => ?_)
            refine lv_goto (tgt := 6) hx hb dX0_quietest_83 (by decide) ?_
            have hC := (congrArg (fun z => fC (cF G) (cct G (pg d kp u_4 d to z fd tp sh) sp) s.heap _ _) (upd_uu sc 2 ((p_q d n k (sc 2) i1).2) ((p_q d n k (sc 2) i1).2))).mp hC
            have hq : p_q d n k (sc 2) (i1 + 1) = ((p_q d n k (sc 2) i1).1, (p_q d n k (sc 2) i1).2) := by grind [p_q]
            rw [← t2_2 hq] at hC
            rw [← t2_1 hq] at hl
            exact ih1 (i1 + 1) (by omega) _ _ _ _ hC ls (lv_sub hl [4, 5, 6, 1, 0] rfl)
          · refine lv_iconst (v := 1) hx hb dX0_quietest_43 rfl ?_
            refine lv_goto (tgt := 48) hx hb dX0_quietest_44 (by decide) ?_
            refine lv_istore (lv' := [(6, .int 1), (5, .int (p_by d (nI (10 + i1)) n k)), (0, .ref (G.ad 5 0)), (1, .int n), (2, .int k), (3, .int ((p_q d n k (sc 2) i1).1)), (4, .int (nI (10 + i1)))]) hx hb dX0_quietest_48 hl (by decide) rfl (fun ls hl => ?_)
            refine lv_iload hx hb dX0_quietest_50 (lv_at hl 0 rfl) ?_
            refine lv_if_eq (tgt := 60) hx hb dX0_quietest_52 (by decide) (fun z_14 => absurd z_14 (by decide)) (fun _ => ?_)
            refine lv_iload hx hb dX0_quietest_55 (lv_at hl 6 rfl) ?_
            refine lv_goto (tgt := 61) hx hb dX0_quietest_57 (by decide) ?_
            refine lv_istore_n (lv' := [(3, .int (nI (10 + i1))), (6, .int 1), (5, .int (p_by d (nI (10 + i1)) n k)), (0, .ref (G.ad 5 0)), (1, .int n), (2, .int k), (4, .int (nI (10 + i1)))]) hx hb dX0_quietest_61 rfl hl (by decide) rfl (fun ls hl => ?_)
            refine lv_aload_n hx hb dX0_quietest_62 rfl (lv_at hl 3 rfl) ?_
            refine lv_iload hx hb dX0_quietest_63 (lv_at hl 1 rfl) ?_
            refine lv_if_eq (tgt := 73) hx hb dX0_quietest_65 (by decide) (fun z_15 => absurd z_15 (by decide)) (fun _ => ?_)
            refine lv_iload hx hb dX0_quietest_68 (lv_at hl 2 rfl) ?_
            refine lv_goto (tgt := 77) hx hb dX0_quietest_70 (by decide) ?_
            refine fg_put (C := RX0) (T := TX0) (N := 13) (ci := 1) (g := 5) (i := 0) hx hb hown hts hX hC in_X0 tyX0 tyX0_ok nmX0 rfl (cin rfl) rfl 12 (by decide) q434 (fun _ h => h) rfl rfl rfl (Nat.le_of_ble_eq_true rfl) (cct G (pg d kp u_4 d to (upd (upd sc 2 ((p_q d n k (sc 2) i1).2)) 2 (p_by d (nI (10 + i1)) n k)) fd tp sh) sp) cs_sc2 dX0_quietest_77 (fun H locs hC => ?_)
            refine lv_iinc (v := nI (10 + i1 + 1)) (lv' := [(4, .int (nI (10 + i1 + 1))), (3, .int (nI (10 + i1))), (6, .int 1), (5, .int (p_by d (nI (10 + i1)) n k)), (0, .ref (G.ad 5 0)), (1, .int n), (2, .int k)]) hx hb dX0_quietest_80 hl (k := 6) rfl (nI_1 _) (by decide) rfl (fun ls hl => ?_)
            refine lv_goto (tgt := 6) hx hb dX0_quietest_83 (by decide) ?_
            have hC := (congrArg (fun z => fC (cF G) (cct G (pg d kp u_4 d to z fd tp sh) sp) s.heap _ _) (upd_uu sc 2 ((p_q d n k (sc 2) i1).2) (p_by d (nI (10 + i1)) n k))).mp hC
            have hq : p_q d n k (sc 2) (i1 + 1) = (nI (10 + i1), p_by d (nI (10 + i1)) n k) := by grind [p_q]
            rw [← t2_2 hq] at hC
            rw [← t2_1 hq] at hl
            exact ih1 (i1 + 1) (by omega) _ _ _ _ hC ls (lv_sub hl [4, 5, 6, 1, 0] rfl)
  have hC := (congrArg (fun z => fC (cF G) (cct G (pg d kp as un to z fd tp sh) sp) s.heap _ _) (upd_id sc 2)).mp hC
  exact L_1 90 0 (by omega) _ _ _ _ hC ls (lv_sub hl [2, 3, 4, 1, 0] rfl)
