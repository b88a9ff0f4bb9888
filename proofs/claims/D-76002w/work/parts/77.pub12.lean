theorem hdV_X0_rowAt : yX0_rowAt.cls = RX0 ∧ yX0_rowAt.cls ≠ "java/lang/invoke/MethodHandle" ∧ yX0_rowAt.cls ≠ "java/lang/invoke/VarHandle" ∧ (parseMethodDescriptor yX0_rowAt.desc).map (fun d => d.parameters.length) = some 1 := by decide +kernel
theorem hdV_X0_areHeardSo : yX0_areHeardSo.cls = RX0 ∧ yX0_areHeardSo.cls ≠ "java/lang/invoke/MethodHandle" ∧ yX0_areHeardSo.cls ≠ "java/lang/invoke/VarHandle" ∧ (parseMethodDescriptor yX0_areHeardSo.desc).map (fun d => d.parameters.length) = some 2 := by decide +kernel
theorem hdV_X0_allThatFit : yX0_allThatFit.cls = RX0 ∧ yX0_allThatFit.cls ≠ "java/lang/invoke/MethodHandle" ∧ yX0_allThatFit.cls ≠ "java/lang/invoke/VarHandle" ∧ (parseMethodDescriptor yX0_allThatFit.desc).map (fun d => d.parameters.length) = some 4 := by decide +kernel
theorem hdS_J5_bitCount : yJ5_bitCount.cls ≠ "java/lang/invoke/MethodHandle" ∧ yJ5_bitCount.cls ≠ "java/lang/invoke/VarHandle" ∧ (parseMethodDescriptor yJ5_bitCount.desc).map (fun d => d.parameters.length) = some 1 := by decide +kernel
theorem hdS_X0_lay : yX0_lay.cls ≠ "java/lang/invoke/MethodHandle" ∧ yX0_lay.cls ≠ "java/lang/invoke/VarHandle" ∧ (parseMethodDescriptor yX0_lay.desc).map (fun d => d.parameters.length) = some 3 := by decide +kernel
theorem hdV_X0_loads : yX0_loads.cls = RX0 ∧ yX0_loads.cls ≠ "java/lang/invoke/MethodHandle" ∧ yX0_loads.cls ≠ "java/lang/invoke/VarHandle" ∧ (parseMethodDescriptor yX0_loads.desc).map (fun d => d.parameters.length) = some 1 := by decide +kernel
theorem hdV_X0_rightOnes : yX0_rightOnes.cls = RX0 ∧ yX0_rightOnes.cls ≠ "java/lang/invoke/MethodHandle" ∧ yX0_rightOnes.cls ≠ "java/lang/invoke/VarHandle" ∧ (parseMethodDescriptor yX0_rightOnes.desc).map (fun d => d.parameters.length) = some 1 := by decide +kernel
set_option maxRecDepth 100000 in
theorem m_X0_allThatFit_3 {l : Launch} {G : Gc} {d kp as un to sc fd tp sh : Row} {sp : Nat → Option Nat} (hw : WF d) (s0 ears : Int32) (hG : GW G) (hs : p_in s0 0 3) (hn : ¬ G.sw (ix s0) = 0) (he : p_in ears 0 2) : Cm l yX0_allThatFit (ws_ yX0_allThatFit cX0_allThatFit 10 (some .long)) ({ frames := 6, cells := 0, slots := 0, locals := 130 }) (cF G) [.ref (G.ad 5 0), .int s0, .int ears, .int 0, .int 36] (cct G (pg d kp as un to sc fd tp sh) sp) (fun u : Row => some (.long (lN (p_fit d sh (40 * ix s0) (G.sn (ix s0)) ears 3 36)))) (fun u => cct G (pg d kp u un to sc fd tp sh) sp) := by
  refine Cm.start (by decide) (Nat.le_of_ble_eq_true rfl) ?_
  intro p e s m below meth c hf hX hC ls hl
  obtain ⟨hx, hb, hr, hml, hown, hts, hlocks⟩ := hf
  have hl : lv_has ls 10 [(0, .ref (G.ad 5 0)), (1, .int s0), (2, .int ears), (3, .int 0), (4, .int 36)] := hl
  have hown : s.vm.findClass "OwlEars" = some m.cls := hown
  refine lv_aload_n hx hb dX0_allThatFit_0 rfl (lv_at hl 0 rfl) ?_
  refine lv_iload_n hx hb dX0_allThatFit_1 rfl (lv_at hl 1 rfl) ?_
  refine fc_V (As := [.int s0]) (rest := []) hx hb hml hown hts hX hC (m_X0_rowAt_n s0 hs hn) (lw_V q984 q986 qs30 q108 q987) hdV_X0_rowAt ⟨rfl, rfl⟩ ⟨Nat.le_of_ble_eq_true rfl, Nat.le_of_ble_eq_true rfl⟩ (fx_recv (g := 5) (i := 0) (ci := 1) (q := (RX0, TX0, 13)) hX hC (cin rfl) rfl rfl) hl.1 rfl (Nat.le_of_ble_eq_true rfl) ⟨Nat.zero_le _, Nat.zero_le _⟩ dX0_allThatFit_2 (fun _ H locs hC => ?_)
  refine W.eq (g2 := F0 m 5 ls [.ref (G.ad 10 (ix s0))]) rfl ?_
  refine lv_astore (lv' := [(5, .ref (G.ad 10 (ix s0))), (0, .ref (G.ad 5 0)), (1, .int s0), (2, .int ears), (3, .int 0), (4, .int 36)]) hx hb dX0_allThatFit_5 hl (by decide) rfl (fun ls hl => ?_)
  refine lv_aload_n hx hb dX0_allThatFit_7 rfl (lv_at hl 1 rfl) ?_
  refine lv_aload hx hb dX0_allThatFit_8 (lv_at hl 0 rfl) ?_
  refine lv_ifnull hx hb dX0_allThatFit_10 ?_
  refine lv_iconst (v := 1) hx hb dX0_allThatFit_13 rfl ?_
  refine lv_goto (tgt := 18) hx hb dX0_allThatFit_14 (by decide) ?_
  refine lv_iconst (v := 5) hx hb dX0_allThatFit_18 rfl ?_
  refine fc_V (As := [.int 1, .int 5]) (rest := []) hx hb hml hown hts hX hC (m_X0_need_1 5) (lw_V q991 q993 qs31 q108 q994) hdV_X0_need ⟨rfl, rfl⟩ ⟨Nat.le_of_ble_eq_true rfl, Nat.le_of_ble_eq_true rfl⟩ (fx_recv (g := 5) (i := 0) (ci := 1) (q := (RX0, TX0, 13)) hX hC (cin rfl) rfl rfl) hl.1 rfl (Nat.le_of_ble_eq_true rfl) ⟨Nat.zero_le _, Nat.zero_le _⟩ dX0_allThatFit_19 (fun _ H locs hC => ?_)
  refine W.eq (g2 := F0 m 22 ls []) rfl ?_
  refine lv_aload_n hx hb dX0_allThatFit_22 rfl (lv_at hl 1 rfl) ?_
  refine lv_iload_n hx hb dX0_allThatFit_23 rfl (lv_at hl 3 rfl) ?_
  refine lv_iconst (v := 0) hx hb dX0_allThatFit_24 rfl ?_
  refine lv_iconst (v := 2) hx hb dX0_allThatFit_25 rfl ?_
  refine fc_S (As := [.int ears, .int 0, .int 2]) (rest := [.ref (G.ad 5 0)]) hx hb hml hown hts hX hC (m_X0_in ears 0 2) (lw_S q469 q470 q108 q471) hdS_X0_in ⟨rfl, rfl⟩ ⟨Nat.le_of_ble_eq_true rfl, Nat.le_of_ble_eq_true rfl⟩ hl.1 rfl (Nat.le_of_ble_eq_true rfl) ⟨Nat.zero_le _, Nat.zero_le _⟩ dX0_allThatFit_26 (fun _ H locs hC => ?_)
  refine W.eq (g2 := F0 m 29 ls [.int (b2i (p_in ears 0 2)), .ref (G.ad 5 0)]) rfl ?_
  refine lv_iconst (v := 0) hx hb dX0_allThatFit_29 rfl ?_
  refine fc_V (As := [.int (b2i (p_in ears 0 2)), .int 0]) (rest := []) hx hb hml hown hts hX hC (m_X0_need_t (p_in ears 0 2) he 0) (lw_V q991 q993 qs31 q108 q994) hdV_X0_need ⟨rfl, rfl⟩ ⟨Nat.le_of_ble_eq_true rfl, Nat.le_of_ble_eq_true rfl⟩ (fx_recv (g := 5) (i := 0) (ci := 1) (q := (RX0, TX0, 13)) hX hC (cin rfl) rfl rfl) hl.1 rfl (Nat.le_of_ble_eq_true rfl) ⟨Nat.zero_le _, Nat.zero_le _⟩ dX0_allThatFit_30 (fun _ H locs hC => ?_)
  refine W.eq (g2 := F0 m 33 ls []) rfl ?_
  refine lv_aload_n hx hb dX0_allThatFit_33 rfl (lv_at hl 1 rfl) ?_
  refine fg_get (C := RX0) (T := TX0) (N := 13) (ci := 1) (g := 5) (i := 0) (v := .ref (G.ad 0 0)) hx hb hown hts hX hC in_X0 rfl (cin rfl) rfl 3 (by decide) q425 (fun _ h => h) rfl dX0_allThatFit_34 ?_
  refine fg_getN (C := RX4) (T := TX4) (N := 9) (ci := 0) (g := 0) (i := 0) (v := .ref (G.ad 0 3)) hx hb hown hts hX hC in_X4 rfl (cin rfl) rfl 2 (by decide) (hX.2.2.1.F q246) (fun _ h => h) rfl dX0_allThatFit_37 ?_
  refine lv_iload_n hx hb dX0_allThatFit_40 rfl (lv_at hl 4 rfl) ?_
  refine fg_iald (g := 0) (i := 3) (t0 := 0) (v := d 3) hx hb hX hC (cin rfl) rfl rfl (vin_b rfl) rfl dX0_allThatFit_41 ?_
  refine lv_istore (lv' := [(6, .int (d 3)), (5, .ref (G.ad 10 (ix s0))), (0, .ref (G.ad 5 0)), (1, .int s0), (2, .int ears), (3, .int 0), (4, .int 36)]) hx hb dX0_allThatFit_42 hl (by decide) rfl (fun ls hl => ?_)
  refine lv_lconst (v := 0) hx hb dX0_allThatFit_44 rfl ?_
  refine lv_lstore (lv' := [(7, .long 0), (6, .int (d 3)), (5, .ref (G.ad 10 (ix s0))), (0, .ref (G.ad 5 0)), (1, .int s0), (2, .int ears), (3, .int 0), (4, .int 36)]) hx hb dX0_allThatFit_45 hl (by decide) rfl (fun ls hl => ?_)
  refine lv_iconst (v := 0) hx hb dX0_allThatFit_47 rfl ?_
  refine lv_istore (lv' := [(9, .int 0), (7, .long 0), (6, .int (d 3)), (5, .ref (G.ad 10 (ix s0))), (0, .ref (G.ad 5 0)), (1, .int s0), (2, .int ears), (3, .int 0), (4, .int 36)]) hx hb dX0_allThatFit_48 hl (by decide) rfl (fun ls hl => ?_)
  have L_5 : ∀ (k5 i5 : Nat), i5 + k5 = 36 → ∀ (as5 : Row) (x5 : Int32) (H : Heap) (locs : List Loc), fC (cF G) (cct G (pg (upd d 3 x5) kp as5 un to sc fd tp sh) sp) s.heap H locs → ∀ ls : Array Slot, lv_has ls 10 [(0, .ref (G.ad 5 0)), (1, .int s0), (2, .int ears), (3, .int 0), (4, .int 36), (5, .ref (G.ad 10 (ix s0))), (6, .int (d 3)), (7, .long (p_orl (fun v => if p_areSo (upd d 3 (nI v)) sh (40 * ix s0) (G.sn (ix s0)) ears then 1 <<< ((nI v).toInt64 &&& 63) else 0) i5)), (9, .int (nI i5))] → WG p l e ({ frames := 6, cells := 0, slots := 0, locals := 130 }) s m (([.ref (G.ad 5 0), .int s0, .int ears, .int 0, .int 36] : List Value).toArray) below meth c H locs (cF G) (fun u : Row => some (.long (lN (p_fit d sh (40 * ix s0) (G.sn (ix s0)) ears 3 36)))) (fun u => cct G (pg d kp u un to sc fd tp sh) sp) (F0 m 50 ls []) := by
    intro k5
    induction k5 with
    | zero =>
      intro i5 hi5 as5 x5 H locs hC ls hl
      obtain rfl : i5 = 36 := by omega
      refine lv_iload hx hb dX0_allThatFit_50 (lv_at hl 8 rfl) ?_
      refine lv_iload hx hb dX0_allThatFit_52 (lv_at hl 4 rfl) ?_
      refine fj_ge (tgt := 97) hx hb dX0_allThatFit_54 (by decide) (fun _ => ?_) (fun z_6 => absurd z_6 (nlt_ix (n := 36)))
      refine lv_aload_n hx hb dX0_allThatFit_97 rfl (lv_at hl 0 rfl) ?_
      refine fg_get (C := RX0) (T := TX0) (N := 13) (ci := 1) (g := 5) (i := 0) (v := .ref (G.ad 0 0)) hx hb hown hts hX hC in_X0 rfl (cin rfl) rfl 3 (by decide) q425 (fun _ h => h) rfl dX0_allThatFit_98 ?_
      refine fg_getN (C := RX4) (T := TX4) (N := 9) (ci := 0) (g := 0) (i := 0) (v := .ref (G.ad 0 3)) hx hb hown hts hX hC in_X4 rfl (cin rfl) rfl 2 (by decide) (hX.2.2.1.F q246) (fun _ h => h) rfl dX0_allThatFit_101 ?_
      refine lv_iload_n hx hb dX0_allThatFit_104 rfl (lv_at hl 3 rfl) ?_
      refine lv_iload hx hb dX0_allThatFit_105 (lv_at hl 6 rfl) ?_
      refine fg_iast (g := 0) (i := 3) (t0 := 0) hx hb hX hC (cin rfl) rfl rfl (vin_b rfl) (cct G (pg (upd (upd d 3 x5) 3 (d 3)) kp as5 un to sc fd tp sh) sp) (cs_mouse (k := 0) (by decide)) dX0_allThatFit_107 (fun H locs hC => ?_)
      refine lv_lload hx hb dX0_allThatFit_108 (lv_at hl 7 rfl) ?_
      exact fr_l hx hb hr hlocks hX hC as5 (congrArg (fun z => some (Value.long z)) ((p_orl_set (fun v => p_areSo (upd d 3 (nI v)) sh (40 * ix s0) (G.sn (ix s0)) ears) 36 (by decide)).symm)) (congrArg (fun z => cct G (pg z kp as5 un to sc fd tp sh) sp) (upd_back d 3 _)) dX0_allThatFit_110
    | succ k5 ih5 =>
      intro i5 hi5 as5 x5 H locs hC ls hl
      refine lv_iload hx hb dX0_allThatFit_50 (lv_at hl 8 rfl) ?_
      refine lv_iload hx hb dX0_allThatFit_52 (lv_at hl 4 rfl) ?_
      refine fj_ge (tgt := 97) hx hb dX0_allThatFit_54 (by decide) (fun z_7 => absurd (lt_ix (n := 36) (show i5 < 36 by omega)) z_7) (fun _ => ?_)
      refine lv_aload_n hx hb dX0_allThatFit_57 rfl (lv_at hl 0 rfl) ?_
      refine fg_get (C := RX0) (T := TX0) (N := 13) (ci := 1) (g := 5) (i := 0) (v := .ref (G.ad 0 0)) hx hb hown hts hX hC in_X0 rfl (cin rfl) rfl 3 (by decide) q425 (fun _ h => h) rfl dX0_allThatFit_58 ?_
      refine fg_getN (C := RX4) (T := TX4) (N := 9) (ci := 0) (g := 0) (i := 0) (v := .ref (G.ad 0 3)) hx hb hown hts hX hC in_X4 rfl (cin rfl) rfl 2 (by decide) (hX.2.2.1.F q246) (fun _ h => h) rfl dX0_allThatFit_61 ?_
      refine lv_iload_n hx hb dX0_allThatFit_64 rfl (lv_at hl 3 rfl) ?_
      refine lv_iload hx hb dX0_allThatFit_65 (lv_at hl 8 rfl) ?_
      refine fg_iast (g := 0) (i := 3) (t0 := 0) hx hb hX hC (cin rfl) rfl rfl (vin_b rfl) (cct G (pg (upd (upd d 3 x5) 3 (nI i5)) kp as5 un to sc fd tp sh) sp) (cs_mouse (k := 0) (by decide)) dX0_allThatFit_67 (fun H locs hC => ?_)
      have hC := (congrArg (fun z => fC (cF G) (cct G (pg z kp as5 un to sc fd tp sh) sp) s.heap _ _) (upd_uu d 3 x5 (nI i5))).mp hC
      refine lv_lload hx hb dX0_allThatFit_68 (lv_at hl 7 rfl) ?_
      refine lv_aload_n hx hb dX0_allThatFit_70 rfl (lv_at hl 0 rfl) ?_
      refine lv_aload hx hb dX0_allThatFit_71 (lv_at hl 5 rfl) ?_
      refine lv_iload_n hx hb dX0_allThatFit_73 rfl (lv_at hl 2 rfl) ?_
      refine fc_VW (As := [.ref (G.ad 10 (ix s0)), .int ears]) (rest := [.long (p_orl (fun v => if p_areSo (upd d 3 (nI v)) sh (40 * ix s0) (G.sn (ix s0)) ears then 1 <<< ((nI v).toInt64 &&& 63) else 0) i5)]) hx hb hml hown hts hX hC (m_X0_areHeardSo (hw.put3 (show i5 < 36 by omega)) (ix s0) (vin_lt (vin_of hs 4 (by decide))) hG hn ears) (lw_VW q999 q1001 qs33 q108 q1002) hdV_X0_areHeardSo ⟨rfl, rfl⟩ ⟨Nat.le_of_ble_eq_true rfl, Nat.le_of_ble_eq_true rfl⟩ (fx_recv (g := 5) (i := 0) (ci := 1) (q := (RX0, TX0, 13)) hX hC (cin rfl) rfl rfl) hl.1 rfl (Nat.le_of_ble_eq_true rfl) ⟨Nat.zero_le _, Nat.zero_le _⟩ dX0_allThatFit_74 (fun _ H locs hC => ?_)
      refine W.eq (g2 := F0 m 77 ls [.int (b2i (p_areSo (upd d 3 (nI i5)) sh (40 * (ix s0)) (G.sn (ix s0)) ears)), .long (p_orl (fun v => if p_areSo (upd d 3 (nI v)) sh (40 * ix s0) (G.sn (ix s0)) ears then 1 <<< ((nI v).toInt64 &&& 63) else 0) i5)]) rfl ?_
      refine fw_joinl (C := p_areSo (upd d 3 (nI i5)) sh (40 * (ix s0)) (G.sn (ix s0)) ears) (a := 1 <<< ((nI i5).toInt64 &&& 63)) (b := 0) (pcj := 88) (ls := ls) (rest := [.long (p_orl (fun v => if p_areSo (upd d 3 (nI v)) sh (40 * ix s0) (G.sn (ix s0)) ears then 1 <<< ((nI v).toInt64 &&& 63) else 0) i5)]) (fun ja jb => ?_) ?_
      · refine fb_eq (tgt := 87) hx hb dX0_allThatFit_77 (by decide) (fun c_9 => ?_) (fun c_9 => ?_)
        · refine lv_lconst (v := 0) hx hb dX0_allThatFit_87 rfl ?_
          exact jb c_9
        · refine lv_lconst (v := 1) hx hb dX0_allThatFit_80 rfl ?_
          refine lv_iload hx hb dX0_allThatFit_81 (lv_at hl 8 rfl) ?_
          refine lv_lshl (v := 1 <<< ((nI i5).toInt64 &&& 63)) hx hb dX0_allThatFit_83 rfl ?_
          refine lv_goto (tgt := 88) hx hb dX0_allThatFit_84 (by decide) ?_
          exact ja c_9
      refine lv_lor hx hb dX0_allThatFit_88 ?_
      refine lv_lstore (lv' := [(7, .long ((p_orl (fun v => if p_areSo (upd d 3 (nI v)) sh (40 * ix s0) (G.sn (ix s0)) ears then 1 <<< ((nI v).toInt64 &&& 63) else 0) i5) ||| (if p_areSo (upd d 3 (nI i5)) sh (40 * (ix s0)) (G.sn (ix s0)) ears then 1 <<< ((nI i5).toInt64 &&& 63) else 0))), (0, .ref (G.ad 5 0)), (1, .int s0), (2, .int ears), (3, .int 0), (4, .int 36), (5, .ref (G.ad 10 (ix s0))), (6, .int (d 3)), (9, .int (nI i5))]) hx hb dX0_allThatFit_89 hl (by decide) rfl (fun ls hl => ?_)
      refine lv_iinc (v := nI (i5 + 1)) (lv' := [(9, .int (nI (i5 + 1))), (7, .long ((p_orl (fun v => if p_areSo (upd d 3 (nI v)) sh (40 * ix s0) (G.sn (ix s0)) ears then 1 <<< ((nI v).toInt64 &&& 63) else 0) i5) ||| (if p_areSo (upd d 3 (nI i5)) sh (40 * (ix s0)) (G.sn (ix s0)) ears then 1 <<< ((nI i5).toInt64 &&& 63) else 0))), (0, .ref (G.ad 5 0)), (1, .int s0), (2, .int ears), (3, .int 0), (4, .int 36), (5, .ref (G.ad 10 (ix s0))), (6, .int (d 3))]) hx hb dX0_allThatFit_91 hl (k := 8) rfl (nI_1 _) (by decide) rfl (fun ls hl => ?_)
      refine lv_goto (tgt := 50) hx hb dX0_allThatFit_94 (by decide) ?_
      exact ih5 (i5 + 1) (by omega) _ _ _ _ hC ls (lv_sub hl [2, 3, 4, 5, 6, 7, 8, 1, 0] rfl)
  have hC := (congrArg (fun z => fC (cF G) (cct G (pg z kp as un to sc fd tp sh) sp) s.heap _ _) (upd_id d 3)).mp hC
  exact L_5 36 0 (by omega) _ _ _ _ hC ls (lv_sub hl [4, 5, 6, 7, 8, 3, 2, 1, 0] rfl)
set_option maxRecDepth 100000 in
theorem m_X0_allThatFit_4 {l : Launch} {G : Gc} {d kp as un to sc fd tp sh : Row} {sp : Nat → Option Nat} (hw : WF d) (s0 ears : Int32) (hG : GW G) (hs : p_in s0 0 3) (hn : ¬ G.sw (ix s0) = 0) (he : p_in ears 0 2) : Cm l yX0_allThatFit (ws_ yX0_allThatFit cX0_allThatFit 10 (some .long)) ({ frames := 6, cells := 0, slots := 0, locals := 130 }) (cF G) [.ref (G.ad 5 0), .int s0, .int ears, .int 1, .int 4] (cct G (pg d kp as un to sc fd tp sh) sp) (fun u : Row => some (.long (lN (p_fit d sh (40 * ix s0) (G.sn (ix s0)) ears 4 4)))) (fun u => cct G (pg d kp u un to sc fd tp sh) sp) := by
  refine Cm.start (by decide) (Nat.le_of_ble_eq_true rfl) ?_
  intro p e s m below meth c hf hX hC ls hl
  obtain ⟨hx, hb, hr, hml, hown, hts, hlocks⟩ := hf
  have hl : lv_has ls 10 [(0, .ref (G.ad 5 0)), (1, .int s0), (2, .int ears), (3, .int 1), (4, .int 4)] := hl
  have hown : s.vm.findClass "OwlEars" = some m.cls := hown
  refine lv_aload_n hx hb dX0_allThatFit_0 rfl (lv_at hl 0 rfl) ?_
  refine lv_iload_n hx hb dX0_allThatFit_1 rfl (lv_at hl 1 rfl) ?_
  refine fc_V (As := [.int s0]) (rest := []) hx hb hml hown hts hX hC (m_X0_rowAt_n s0 hs hn) (lw_V q984 q986 qs30 q108 q987) hdV_X0_rowAt ⟨rfl, rfl⟩ ⟨Nat.le_of_ble_eq_true rfl, Nat.le_of_ble_eq_true rfl⟩ (fx_recv (g := 5) (i := 0) (ci := 1) (q := (RX0, TX0, 13)) hX hC (cin rfl) rfl rfl) hl.1 rfl (Nat.le_of_ble_eq_true rfl) ⟨Nat.zero_le _, Nat.zero_le _⟩ dX0_allThatFit_2 (fun _ H locs hC => ?_)
  refine W.eq (g2 := F0 m 5 ls [.ref (G.ad 10 (ix s0))]) rfl ?_
  refine lv_astore (lv' := [(5, .ref (G.ad 10 (ix s0))), (0, .ref (G.ad 5 0)), (1, .int s0), (2, .int ears), (3, .int 1), (4, .int 4)]) hx hb dX0_allThatFit_5 hl (by decide) rfl (fun ls hl => ?_)
  refine lv_aload_n hx hb dX0_allThatFit_7 rfl (lv_at hl 1 rfl) ?_
  refine lv_aload hx hb dX0_allThatFit_8 (lv_at hl 0 rfl) ?_
  refine lv_ifnull hx hb dX0_allThatFit_10 ?_
  refine lv_iconst (v := 1) hx hb dX0_allThatFit_13 rfl ?_
  refine lv_goto (tgt := 18) hx hb dX0_allThatFit_14 (by decide) ?_
  refine lv_iconst (v := 5) hx hb dX0_allThatFit_18 rfl ?_
  refine fc_V (As := [.int 1, .int 5]) (rest := []) hx hb hml hown hts hX hC (m_X0_need_1 5) (lw_V q991 q993 qs31 q108 q994) hdV_X0_need ⟨rfl, rfl⟩ ⟨Nat.le_of_ble_eq_true rfl, Nat.le_of_ble_eq_true rfl⟩ (fx_recv (g := 5) (i := 0) (ci := 1) (q := (RX0, TX0, 13)) hX hC (cin rfl) rfl rfl) hl.1 rfl (Nat.le_of_ble_eq_true rfl) ⟨Nat.zero_le _, Nat.zero_le _⟩ dX0_allThatFit_19 (fun _ H locs hC => ?_)
  refine W.eq (g2 := F0 m 22 ls []) rfl ?_
  refine lv_aload_n hx hb dX0_allThatFit_22 rfl (lv_at hl 1 rfl) ?_
  refine lv_iload_n hx hb dX0_allThatFit_23 rfl (lv_at hl 3 rfl) ?_
  refine lv_iconst (v := 0) hx hb dX0_allThatFit_24 rfl ?_
  refine lv_iconst (v := 2) hx hb dX0_allThatFit_25 rfl ?_
  refine fc_S (As := [.int ears, .int 0, .int 2]) (rest := [.ref (G.ad 5 0)]) hx hb hml hown hts hX hC (m_X0_in ears 0 2) (lw_S q469 q470 q108 q471) hdS_X0_in ⟨rfl, rfl⟩ ⟨Nat.le_of_ble_eq_true rfl, Nat.le_of_ble_eq_true rfl⟩ hl.1 rfl (Nat.le_of_ble_eq_true rfl) ⟨Nat.zero_le _, Nat.zero_le _⟩ dX0_allThatFit_26 (fun _ H locs hC => ?_)
  refine W.eq (g2 := F0 m 29 ls [.int (b2i (p_in ears 0 2)), .ref (G.ad 5 0)]) rfl ?_
  refine lv_iconst (v := 0) hx hb dX0_allThatFit_29 rfl ?_
  refine fc_V (As := [.int (b2i (p_in ears 0 2)), .int 0]) (rest := []) hx hb hml hown hts hX hC (m_X0_need_t (p_in ears 0 2) he 0) (lw_V q991 q993 qs31 q108 q994) hdV_X0_need ⟨rfl, rfl⟩ ⟨Nat.le_of_ble_eq_true rfl, Nat.le_of_ble_eq_true rfl⟩ (fx_recv (g := 5) (i := 0) (ci := 1) (q := (RX0, TX0, 13)) hX hC (cin rfl) rfl rfl) hl.1 rfl (Nat.le_of_ble_eq_true rfl) ⟨Nat.zero_le _, Nat.zero_le _⟩ dX0_allThatFit_30 (fun _ H locs hC => ?_)
  refine W.eq (g2 := F0 m 33 ls []) rfl ?_
  refine lv_aload_n hx hb dX0_allThatFit_33 rfl (lv_at hl 1 rfl) ?_
  refine fg_get (C := RX0) (T := TX0) (N := 13) (ci := 1) (g := 5) (i := 0) (v := .ref (G.ad 0 0)) hx hb hown hts hX hC in_X0 rfl (cin rfl) rfl 3 (by decide) q425 (fun _ h => h) rfl dX0_allThatFit_34 ?_
  refine fg_getN (C := RX4) (T := TX4) (N := 9) (ci := 0) (g := 0) (i := 0) (v := .ref (G.ad 0 3)) hx hb hown hts hX hC in_X4 rfl (cin rfl) rfl 2 (by decide) (hX.2.2.1.F q246) (fun _ h => h) rfl dX0_allThatFit_37 ?_
  refine lv_iload_n hx hb dX0_allThatFit_40 rfl (lv_at hl 4 rfl) ?_
  refine fg_iald (g := 0) (i := 3) (t0 := 0) (v := d 4) hx hb hX hC (cin rfl) rfl rfl (vin_b rfl) rfl dX0_allThatFit_41 ?_
  refine lv_istore (lv' := [(6, .int (d 4)), (5, .ref (G.ad 10 (ix s0))), (0, .ref (G.ad 5 0)), (1, .int s0), (2, .int ears), (3, .int 1), (4, .int 4)]) hx hb dX0_allThatFit_42 hl (by decide) rfl (fun ls hl => ?_)
  refine lv_lconst (v := 0) hx hb dX0_allThatFit_44 rfl ?_
  refine lv_lstore (lv' := [(7, .long 0), (6, .int (d 4)), (5, .ref (G.ad 10 (ix s0))), (0, .ref (G.ad 5 0)), (1, .int s0), (2, .int ears), (3, .int 1), (4, .int 4)]) hx hb dX0_allThatFit_45 hl (by decide) rfl (fun ls hl => ?_)
  refine lv_iconst (v := 0) hx hb dX0_allThatFit_47 rfl ?_
  refine lv_istore (lv' := [(9, .int 0), (7, .long 0), (6, .int (d 4)), (5, .ref (G.ad 10 (ix s0))), (0, .ref (G.ad 5 0)), (1, .int s0), (2, .int ears), (3, .int 1), (4, .int 4)]) hx hb dX0_allThatFit_48 hl (by decide) rfl (fun ls hl => ?_)
  have L_5 : ∀ (k5 i5 : Nat), i5 + k5 = 4 → ∀ (as5 : Row) (x5 : Int32) (H : Heap) (locs : List Loc), fC (cF G) (cct G (pg (upd d 4 x5) kp as5 un to sc fd tp sh) sp) s.heap H locs → ∀ ls : Array Slot, lv_has ls 10 [(0, .ref (G.ad 5 0)), (1, .int s0), (2, .int ears), (3, .int 1), (4, .int 4), (5, .ref (G.ad 10 (ix s0))), (6, .int (d 4)), (7, .long (p_orl (fun v => if p_areSo (upd d 4 (nI v)) sh (40 * ix s0) (G.sn (ix s0)) ears then 1 <<< ((nI v).toInt64 &&& 63) else 0) i5)), (9, .int (nI i5))] → WG p l e ({ frames := 6, cells := 0, slots := 0, locals := 130 }) s m (([.ref (G.ad 5 0), .int s0, .int ears, .int 1, .int 4] : List Value).toArray) below meth c H locs (cF G) (fun u : Row => some (.long (lN (p_fit d sh (40 * ix s0) (G.sn (ix s0)) ears 4 4)))) (fun u => cct G (pg d kp u un to sc fd tp sh) sp) (F0 m 50 ls []) := by
    intro k5
    induction k5 with
    | zero =>
      intro i5 hi5 as5 x5 H locs hC ls hl
      obtain rfl : i5 = 4 := by omega
      refine lv_iload hx hb dX0_allThatFit_50 (lv_at hl 8 rfl) ?_
      refine lv_iload hx hb dX0_allThatFit_52 (lv_at hl 4 rfl) ?_
      refine fj_ge (tgt := 97) hx hb dX0_allThatFit_54 (by decide) (fun _ => ?_) (fun z_6 => absurd z_6 (nlt_ix (n := 4)))
      refine lv_aload_n hx hb dX0_allThatFit_97 rfl (lv_at hl 0 rfl) ?_
      refine fg_get (C := RX0) (T := TX0) (N := 13) (ci := 1) (g := 5) (i := 0) (v := .ref (G.ad 0 0)) hx hb hown hts hX hC in_X0 rfl (cin rfl) rfl 3 (by decide) q425 (fun _ h => h) rfl dX0_allThatFit_98 ?_
      refine fg_getN (C := RX4) (T := TX4) (N := 9) (ci := 0) (g := 0) (i := 0) (v := .ref (G.ad 0 3)) hx hb hown hts hX hC in_X4 rfl (cin rfl) rfl 2 (by decide) (hX.2.2.1.F q246) (fun _ h => h) rfl dX0_allThatFit_101 ?_
      refine lv_iload_n hx hb dX0_allThatFit_104 rfl (lv_at hl 3 rfl) ?_
      refine lv_iload hx hb dX0_allThatFit_105 (lv_at hl 6 rfl) ?_
      refine fg_iast (g := 0) (i := 3) (t0 := 0) hx hb hX hC (cin rfl) rfl rfl (vin_b rfl) (cct G (pg (upd (upd d 4 x5) 4 (d 4)) kp as5 un to sc fd tp sh) sp) (cs_mouse (k := 1) (by decide)) dX0_allThatFit_107 (fun H locs hC => ?_)
      refine lv_lload hx hb dX0_allThatFit_108 (lv_at hl 7 rfl) ?_
      exact fr_l hx hb hr hlocks hX hC as5 (congrArg (fun z => some (Value.long z)) ((p_orl_set (fun v => p_areSo (upd d 4 (nI v)) sh (40 * ix s0) (G.sn (ix s0)) ears) 4 (by decide)).symm)) (congrArg (fun z => cct G (pg z kp as5 un to sc fd tp sh) sp) (upd_back d 4 _)) dX0_allThatFit_110
    | succ k5 ih5 =>
      intro i5 hi5 as5 x5 H locs hC ls hl
      refine lv_iload hx hb dX0_allThatFit_50 (lv_at hl 8 rfl) ?_
      refine lv_iload hx hb dX0_allThatFit_52 (lv_at hl 4 rfl) ?_
      refine fj_ge (tgt := 97) hx hb dX0_allThatFit_54 (by decide) (fun z_7 => absurd (lt_ix (n := 4) (show i5 < 4 by omega)) z_7) (fun _ => ?_)
      refine lv_aload_n hx hb dX0_allThatFit_57 rfl (lv_at hl 0 rfl) ?_
      refine fg_get (C := RX0) (T := TX0) (N := 13) (ci := 1) (g := 5) (i := 0) (v := .ref (G.ad 0 0)) hx hb hown hts hX hC in_X0 rfl (cin rfl) rfl 3 (by decide) q425 (fun _ h => h) rfl dX0_allThatFit_58 ?_
      refine fg_getN (C := RX4) (T := TX4) (N := 9) (ci := 0) (g := 0) (i := 0) (v := .ref (G.ad 0 3)) hx hb hown hts hX hC in_X4 rfl (cin rfl) rfl 2 (by decide) (hX.2.2.1.F q246) (fun _ h => h) rfl dX0_allThatFit_61 ?_
      refine lv_iload_n hx hb dX0_allThatFit_64 rfl (lv_at hl 3 rfl) ?_
      refine lv_iload hx hb dX0_allThatFit_65 (lv_at hl 8 rfl) ?_
      refine fg_iast (g := 0) (i := 3) (t0 := 0) hx hb hX hC (cin rfl) rfl rfl (vin_b rfl) (cct G (pg (upd (upd d 4 x5) 4 (nI i5)) kp as5 un to sc fd tp sh) sp) (cs_mouse (k := 1) (by decide)) dX0_allThatFit_67 (fun H locs hC => ?_)
      have hC := (congrArg (fun z => fC (cF G) (cct G (pg z kp as5 un to sc fd tp sh) sp) s.heap _ _) (upd_uu d 4 x5 (nI i5))).mp hC
      refine lv_lload hx hb dX0_allThatFit_68 (lv_at hl 7 rfl) ?_
      refine lv_aload_n hx hb dX0_allThatFit_70 rfl (lv_at hl 0 rfl) ?_
      refine lv_aload hx hb dX0_allThatFit_71 (lv_at hl 5 rfl) ?_
      refine lv_iload_n hx hb dX0_allThatFit_73 rfl (lv_at hl 2 rfl) ?_
      refine fc_VW (As := [.ref (G.ad 10 (ix s0)), .int ears]) (rest := [.long (p_orl (fun v => if p_areSo (upd d 4 (nI v)) sh (40 * ix s0) (G.sn (ix s0)) ears then 1 <<< ((nI v).toInt64 &&& 63) else 0) i5)]) hx hb hml hown hts hX hC (m_X0_areHeardSo hw.put4 (ix s0) (vin_lt (vin_of hs 4 (by decide))) hG hn ears) (lw_VW q999 q1001 qs33 q108 q1002) hdV_X0_areHeardSo ⟨rfl, rfl⟩ ⟨Nat.le_of_ble_eq_true rfl, Nat.le_of_ble_eq_true rfl⟩ (fx_recv (g := 5) (i := 0) (ci := 1) (q := (RX0, TX0, 13)) hX hC (cin rfl) rfl rfl) hl.1 rfl (Nat.le_of_ble_eq_true rfl) ⟨Nat.zero_le _, Nat.zero_le _⟩ dX0_allThatFit_74 (fun _ H locs hC => ?_)
      refine W.eq (g2 := F0 m 77 ls [.int (b2i (p_areSo (upd d 4 (nI i5)) sh (40 * (ix s0)) (G.sn (ix s0)) ears)), .long (p_orl (fun v => if p_areSo (upd d 4 (nI v)) sh (40 * ix s0) (G.sn (ix s0)) ears then 1 <<< ((nI v).toInt64 &&& 63) else 0) i5)]) rfl ?_
      refine fw_joinl (C := p_areSo (upd d 4 (nI i5)) sh (40 * (ix s0)) (G.sn (ix s0)) ears) (a := 1 <<< ((nI i5).toInt64 &&& 63)) (b := 0) (pcj := 88) (ls := ls) (rest := [.long (p_orl (fun v => if p_areSo (upd d 4 (nI v)) sh (40 * ix s0) (G.sn (ix s0)) ears then 1 <<< ((nI v).toInt64 &&& 63) else 0) i5)]) (fun ja jb => ?_) ?_
      · refine fb_eq (tgt := 87) hx hb dX0_allThatFit_77 (by decide) (fun c_9 => ?_) (fun c_9 => ?_)
        · refine lv_lconst (v := 0) hx hb dX0_allThatFit_87 rfl ?_
          exact jb c_9
        · refine lv_lconst (v := 1) hx hb dX0_allThatFit_80 rfl ?_
          refine lv_iload hx hb dX0_allThatFit_81 (lv_at hl 8 rfl) ?_
          refine lv_lshl (v := 1 <<< ((nI i5).toInt64 &&& 63)) hx hb dX0_allThatFit_83 rfl ?_
          refine lv_goto (tgt := 88) hx hb dX0_allThatFit_84 (by decide) ?_
          exact ja c_9
      refine lv_lor hx hb dX0_allThatFit_88 ?_
      refine lv_lstore (lv' := [(7, .long ((p_orl (fun v => if p_areSo (upd d 4 (nI v)) sh (40 * ix s0) (G.sn (ix s0)) ears then 1 <<< ((nI v).toInt64 &&& 63) else 0) i5) ||| (if p_areSo (upd d 4 (nI i5)) sh (40 * (ix s0)) (G.sn (ix s0)) ears then 1 <<< ((nI i5).toInt64 &&& 63) else 0))), (0, .ref (G.ad 5 0)), (1, .int s0), (2, .int ears), (3, .int 1), (4, .int 4), (5, .ref (G.ad 10 (ix s0))), (6, .int (d 4)), (9, .int (nI i5))]) hx hb dX0_allThatFit_89 hl (by decide) rfl (fun ls hl => ?_)
      refine lv_iinc (v := nI (i5 + 1)) (lv' := [(9, .int (nI (i5 + 1))), (7, .long ((p_orl (fun v => if p_areSo (upd d 4 (nI v)) sh (40 * ix s0) (G.sn (ix s0)) ears then 1 <<< ((nI v).toInt64 &&& 63) else 0) i5) ||| (if p_areSo (upd d 4 (nI i5)) sh (40 * (ix s0)) (G.sn (ix s0)) ears then 1 <<< ((nI i5).toInt64 &&& 63) else 0))), (0, .ref (G.ad 5 0)), (1, .int s0), (2, .int ears), (3, .int 1), (4, .int 4), (5, .ref (G.ad 10 (ix s0))), (6, .int (d 4))]) hx hb dX0_allThatFit_91 hl (k := 8) rfl (nI_1 _) (by decide) rfl (fun ls hl => ?_)
      refine lv_goto (tgt := 50) hx hb dX0_allThatFit_94 (by decide) ?_
      exact ih5 (i5 + 1) (by omega) _ _ _ _ hC ls (lv_sub hl [2, 3, 4, 5, 6, 7, 8, 1, 0] rfl)
  have hC := (congrArg (fun z => fC (cF G) (cct G (pg z kp as un to sc fd tp sh) sp) s.heap _ _) (upd_id d 4)).mp hC
  exact L_5 4 0 (by omega) _ _ _ _ hC ls (lv_sub hl [4, 5, 6, 7, 8, 3, 2, 1, 0] rfl)
set_option maxRecDepth 100000 in
theorem m_X0_allThatFit_t1 {l : Launch} {G : Gc} {d kp as un to sc fd tp sh : Row} {sp : Nat → Option Nat} (s0 ears at0 many : Int32) (hs : ¬ p_in s0 0 3) : CmX l yX0_allThatFit (ws_ yX0_allThatFit cX0_allThatFit 10 (some .long)) ({ frames := 3, cells := 0, slots := 0, locals := 64 }) (cF G) [.ref (G.ad 5 0), .int s0, .int ears, .int at0, .int many] (cct G (pg d kp as un to sc fd tp sh) sp) (fun _ : Unit => .threw (G.ad 5 1)) (fun _ => cct G (pg d kp as un to (upd sc 3 0) fd tp sh) sp) := by
  refine CmX.start (by decide) (Nat.le_of_ble_eq_true rfl) ?_
  intro p e s m below meth c hf hE hX hC ls hl
  obtain ⟨hx, hb, hr, hml, hown, hts, hlocks⟩ := hf
  have hl : lv_has ls 10 [(0, .ref (G.ad 5 0)), (1, .int s0), (2, .int ears), (3, .int at0), (4, .int many)] := hl
  have hown : s.vm.findClass "OwlEars" = some m.cls := hown
  refine lv_aload_n hx hb dX0_allThatFit_0 rfl (lv_at hl 0 rfl) ?_
  refine lv_iload_n hx hb dX0_allThatFit_1 rfl (lv_at hl 1 rfl) ?_
  refine fc_VT (As := [.int s0]) (rest := []) hx hb hml hown hts hX hC (m_X0_rowAt_t s0 hs) (lw_V q984 q986 qs30 q108 q987) hdV_X0_rowAt ⟨rfl, rfl⟩ ⟨Nat.le_of_ble_eq_true rfl, Nat.le_of_ble_eq_true rfl⟩ (fx_recv (g := 5) (i := 0) (ci := 1) (q := (RX0, TX0, 13)) hX hC (cin rfl) rfl rfl) hl.1 rfl (Nat.le_of_ble_eq_true rfl) ⟨Nat.zero_le _, Nat.zero_le _⟩ dX0_allThatFit_2 (fun _ H locs hC => ?_)
  exact fx_out hlocks hX hC hE rfl () rfl rfl
set_option maxRecDepth 100000 in
theorem m_X0_allThatFit_t2 {l : Launch} {G : Gc} {d kp as un to sc fd tp sh : Row} {sp : Nat → Option Nat} (s0 ears at0 many : Int32) (hs : p_in s0 0 3) (hn : G.sw (ix s0) = 0) : CmX l yX0_allThatFit (ws_ yX0_allThatFit cX0_allThatFit 10 (some .long)) ({ frames := 3, cells := 0, slots := 0, locals := 63 }) (cF G) [.ref (G.ad 5 0), .int s0, .int ears, .int at0, .int many] (cct G (pg d kp as un to sc fd tp sh) sp) (fun _ : Unit => .threw (G.ad 5 1)) (fun _ => cct G (pg d kp as un to (upd sc 3 5) fd tp sh) sp) := by
  refine CmX.start (by decide) (Nat.le_of_ble_eq_true rfl) ?_
  intro p e s m below meth c hf hE hX hC ls hl
  obtain ⟨hx, hb, hr, hml, hown, hts, hlocks⟩ := hf
  have hl : lv_has ls 10 [(0, .ref (G.ad 5 0)), (1, .int s0), (2, .int ears), (3, .int at0), (4, .int many)] := hl
  have hown : s.vm.findClass "OwlEars" = some m.cls := hown
  refine lv_aload_n hx hb dX0_allThatFit_0 rfl (lv_at hl 0 rfl) ?_
  refine lv_iload_n hx hb dX0_allThatFit_1 rfl (lv_at hl 1 rfl) ?_
  refine fc_V (As := [.int s0]) (rest := []) hx hb hml hown hts hX hC (m_X0_rowAt_0 s0 hs hn) (lw_V q984 q986 qs30 q108 q987) hdV_X0_rowAt ⟨rfl, rfl⟩ ⟨Nat.le_of_ble_eq_true rfl, Nat.le_of_ble_eq_true rfl⟩ (fx_recv (g := 5) (i := 0) (ci := 1) (q := (RX0, TX0, 13)) hX hC (cin rfl) rfl rfl) hl.1 rfl (Nat.le_of_ble_eq_true rfl) ⟨Nat.zero_le _, Nat.zero_le _⟩ dX0_allThatFit_2 (fun _ H locs hC => ?_)
  refine W.eq (g2 := F0 m 5 ls [.null]) rfl ?_
  refine lv_astoreN (lv' := [(5, .null), (0, .ref (G.ad 5 0)), (1, .int s0), (2, .int ears), (3, .int at0), (4, .int many)]) hx hb dX0_allThatFit_5 hl (by decide) rfl (fun ls hl => ?_)
  refine lv_aload_n hx hb dX0_allThatFit_7 rfl (lv_at hl 1 rfl) ?_
  refine lv_aloadN hx hb dX0_allThatFit_8 (lv_at hl 0 rfl) ?_
  refine lv_ifnullN (tgt := 17) hx hb dX0_allThatFit_10 (by decide) ?_
  refine lv_iconst (v := 0) hx hb dX0_allThatFit_17 rfl ?_
  refine lv_iconst (v := 5) hx hb dX0_allThatFit_18 rfl ?_
  refine fc_VT (As := [.int 0, .int 5]) (rest := []) hx hb hml hown hts hX hC (m_X0_need_0 5) (lw_V q991 q993 qs31 q108 q994) hdV_X0_need ⟨rfl, rfl⟩ ⟨Nat.le_of_ble_eq_true rfl, Nat.le_of_ble_eq_true rfl⟩ (fx_recv (g := 5) (i := 0) (ci := 1) (q := (RX0, TX0, 13)) hX hC (cin rfl) rfl rfl) hl.1 rfl (Nat.le_of_ble_eq_true rfl) ⟨Nat.zero_le _, Nat.zero_le _⟩ dX0_allThatFit_19 (fun _ H locs hC => ?_)
  exact fx_out hlocks hX hC hE rfl () rfl rfl
set_option maxRecDepth 100000 in
theorem m_X0_allThatFit_t3 {l : Launch} {G : Gc} {d kp as un to sc fd tp sh : Row} {sp : Nat → Option Nat} (s0 ears at0 many : Int32) (hs : p_in s0 0 3) (hn : ¬ G.sw (ix s0) = 0) (he : ¬ p_in ears 0 2) : CmX l yX0_allThatFit (ws_ yX0_allThatFit cX0_allThatFit 10 (some .long)) ({ frames := 3, cells := 0, slots := 0, locals := 63 }) (cF G) [.ref (G.ad 5 0), .int s0, .int ears, .int at0, .int many] (cct G (pg d kp as un to sc fd tp sh) sp) (fun _ : Unit => .threw (G.ad 5 1)) (fun _ => cct G (pg d kp as un to (upd sc 3 0) fd tp sh) sp) := by
  refine CmX.start (by decide) (Nat.le_of_ble_eq_true rfl) ?_
  intro p e s m below meth c hf hE hX hC ls hl
  obtain ⟨hx, hb, hr, hml, hown, hts, hlocks⟩ := hf
  have hl : lv_has ls 10 [(0, .ref (G.ad 5 0)), (1, .int s0), (2, .int ears), (3, .int at0), (4, .int many)] := hl
  have hown : s.vm.findClass "OwlEars" = some m.cls := hown
  refine lv_aload_n hx hb dX0_allThatFit_0 rfl (lv_at hl 0 rfl) ?_
  refine lv_iload_n hx hb dX0_allThatFit_1 rfl (lv_at hl 1 rfl) ?_
  refine fc_V (As := [.int s0]) (rest := []) hx hb hml hown hts hX hC (m_X0_rowAt_n s0 hs hn) (lw_V q984 q986 qs30 q108 q987) hdV_X0_rowAt ⟨rfl, rfl⟩ ⟨Nat.le_of_ble_eq_true rfl, Nat.le_of_ble_eq_true rfl⟩ (fx_recv (g := 5) (i := 0) (ci := 1) (q := (RX0, TX0, 13)) hX hC (cin rfl) rfl rfl) hl.1 rfl (Nat.le_of_ble_eq_true rfl) ⟨Nat.zero_le _, Nat.zero_le _⟩ dX0_allThatFit_2 (fun _ H locs hC => ?_)
  refine W.eq (g2 := F0 m 5 ls [.ref (G.ad 10 (ix s0))]) rfl ?_
  refine lv_astore (lv' := [(5, .ref (G.ad 10 (ix s0))), (0, .ref (G.ad 5 0)), (1, .int s0), (2, .int ears), (3, .int at0), (4, .int many)]) hx hb dX0_allThatFit_5 hl (by decide) rfl (fun ls hl => ?_)
  refine lv_aload_n hx hb dX0_allThatFit_7 rfl (lv_at hl 1 rfl) ?_
  refine lv_aload hx hb dX0_allThatFit_8 (lv_at hl 0 rfl) ?_
  refine lv_ifnull hx hb dX0_allThatFit_10 ?_
  refine lv_iconst (v := 1) hx hb dX0_allThatFit_13 rfl ?_
  refine lv_goto (tgt := 18) hx hb dX0_allThatFit_14 (by decide) ?_
  refine lv_iconst (v := 5) hx hb dX0_allThatFit_18 rfl ?_
  refine fc_V (As := [.int 1, .int 5]) (rest := []) hx hb hml hown hts hX hC (m_X0_need_1 5) (lw_V q991 q993 qs31 q108 q994) hdV_X0_need ⟨rfl, rfl⟩ ⟨Nat.le_of_ble_eq_true rfl, Nat.le_of_ble_eq_true rfl⟩ (fx_recv (g := 5) (i := 0) (ci := 1) (q := (RX0, TX0, 13)) hX hC (cin rfl) rfl rfl) hl.1 rfl (Nat.le_of_ble_eq_true rfl) ⟨Nat.zero_le _, Nat.zero_le _⟩ dX0_allThatFit_19 (fun _ H locs hC => ?_)
  refine W.eq (g2 := F0 m 22 ls []) rfl ?_
  refine lv_aload_n hx hb dX0_allThatFit_22 rfl (lv_at hl 1 rfl) ?_
  refine lv_iload_n hx hb dX0_allThatFit_23 rfl (lv_at hl 3 rfl) ?_
  refine lv_iconst (v := 0) hx hb dX0_allThatFit_24 rfl ?_
  refine lv_iconst (v := 2) hx hb dX0_allThatFit_25 rfl ?_
  refine fc_S (As := [.int ears, .int 0, .int 2]) (rest := [.ref (G.ad 5 0)]) hx hb hml hown hts hX hC (m_X0_in ears 0 2) (lw_S q469 q470 q108 q471) hdS_X0_in ⟨rfl, rfl⟩ ⟨Nat.le_of_ble_eq_true rfl, Nat.le_of_ble_eq_true rfl⟩ hl.1 rfl (Nat.le_of_ble_eq_true rfl) ⟨Nat.zero_le _, Nat.zero_le _⟩ dX0_allThatFit_26 (fun _ H locs hC => ?_)
  refine W.eq (g2 := F0 m 29 ls [.int (b2i (p_in ears 0 2)), .ref (G.ad 5 0)]) rfl ?_
  refine lv_iconst (v := 0) hx hb dX0_allThatFit_29 rfl ?_
  refine fc_VT (As := [.int (b2i (p_in ears 0 2)), .int 0]) (rest := []) hx hb hml hown hts hX hC (m_X0_need_f (p_in ears 0 2) he 0) (lw_V q991 q993 qs31 q108 q994) hdV_X0_need ⟨rfl, rfl⟩ ⟨Nat.le_of_ble_eq_true rfl, Nat.le_of_ble_eq_true rfl⟩ (fx_recv (g := 5) (i := 0) (ci := 1) (q := (RX0, TX0, 13)) hX hC (cin rfl) rfl rfl) hl.1 rfl (Nat.le_of_ble_eq_true rfl) ⟨Nat.zero_le _, Nat.zero_le _⟩ dX0_allThatFit_30 (fun _ H locs hC => ?_)
  exact fx_out hlocks hX hC hE rfl () rfl rfl
set_option maxRecDepth 100000 in
theorem m_X0_fits {l : Launch} {G : Gc} {d kp as un to sc fd tp sh : Row} {sp : Nat → Option Nat} (hw : WF d) (s0 ears : Int32) (hG : GW G) : Cm l yX0_fits (wsW_ yX0_fits cX0_fits 4 (some .long) [(0, 9, 10, 54)]) ({ frames := 7, cells := 0, slots := 0, locals := 159 }) (cF G) [.ref (G.ad 5 0), .int s0, .int ears] (cct G (pg d kp as un to sc fd tp sh) sp) (fun u : Row × Int32 => some (.long ((s_fits d fd (swr G) (snr G) sh s0 ears).1))) (fun u => cct G (pg d kp u.1 un to (upd sc 3 u.2) ((s_fits d fd (swr G) (snr G) sh s0 ears).2) tp sh) sp) := by
  refine Cm.startH (by decide) (Nat.le_of_ble_eq_true rfl) ?_
  intro p e s m below meth c hf hE hX hC ls hl
  obtain ⟨hx, hb, hr, hml, hown, hts, hlocks⟩ := hf
  have hl : lv_has ls 4 [(0, .ref (G.ad 5 0)), (1, .int s0), (2, .int ears)] := hl
  have hown : s.vm.findClass "OwlEars" = some m.cls := hown
  by_cases hs : p_in s0 0 3
  · by_cases hn : G.sw (ix s0) = 0
    · refine lv_aload_n hx hb dX0_fits_0 rfl (lv_at hl 0 rfl) ?_
      refine lv_iload_n hx hb dX0_fits_1 rfl (lv_at hl 1 rfl) ?_
      refine lv_iload_n hx hb dX0_fits_2 rfl (lv_at hl 2 rfl) ?_
      refine lv_iconst (v := 0) hx hb dX0_fits_3 rfl ?_
      refine lv_bipush (v := 36) hx hb dX0_fits_4 rfl ?_
      refine fc_VT (As := [.int s0, .int ears, .int 0, .int 36]) (rest := []) hx hb hml hown hts hX hC (m_X0_allThatFit_t2 s0 ears 0 36 hs hn) (lw_V q980 q982 qs29 q108 q983) hdV_X0_allThatFit ⟨rfl, rfl⟩ ⟨Nat.le_of_ble_eq_true rfl, Nat.le_of_ble_eq_true rfl⟩ (fx_recv (g := 5) (i := 0) (ci := 1) (q := (RX0, TX0, 13)) hX hC (cin rfl) rfl rfl) hl.1 rfl (Nat.le_of_ble_eq_true rfl) ⟨Nat.zero_le _, Nat.zero_le _⟩ dX0_fits_6 (fun _ H locs hC => ?_)
      refine fx_catch (own := "OwlEars") (name := "OwlEars$Refusal") hown (hts _ q141) hE (by decide) (by decide) (by decide) (fx_recv (g := 5) (i := 1) (ci := 2) (q := (RX1, TX1, 7)) hX hC (cin rfl) rfl rfl) ?_
      refine lv_astore_n (lv' := [(3, .ref (G.ad 5 1)), (0, .ref (G.ad 5 0)), (1, .int s0), (2, .int ears)]) hx hb dX0_fits_10 rfl hl (by decide) rfl (fun ls hl => ?_)
      refine lv_aload_n hx hb dX0_fits_11 rfl (lv_at hl 1 rfl) ?_
      refine lv_aload_n hx hb dX0_fits_12 rfl (lv_at hl 0 rfl) ?_
      refine fg_getN (C := RX1) (T := TX1) (N := 7) (ci := 2) (g := 5) (i := 1) (v := .int 5) hx hb hown hts hX hC in_X1 rfl (cin rfl) rfl 6 (by decide) (hX.2.2.1.F q193) (fun _ h => h) rfl dX0_fits_13 ?_
      refine fc_V (As := [.int 5]) (rest := []) hx hb hml hown hts hX hC (m_X0_finding 5 (vin_b rfl)) (lw_V q472 q474 qs2 q108 q475) hdV_X0_finding ⟨rfl, rfl⟩ ⟨Nat.le_of_ble_eq_true rfl, Nat.le_of_ble_eq_true rfl⟩ (fx_recv (g := 5) (i := 0) (ci := 1) (q := (RX0, TX0, 13)) hX hC (cin rfl) rfl rfl) hl.1 rfl (Nat.le_of_ble_eq_true rfl) ⟨Nat.zero_le _, Nat.zero_le _⟩ dX0_fits_16 (fun _ H locs hC => ?_)
      refine W.eq (g2 := F0 m 19 ls [.int (-1000006)]) rfl ?_
      refine lv_i2l (v := ((-1000006) : Int32).toInt64) hx hb dX0_fits_19 rfl ?_
      have hs : s_fits d fd (swr G) (snr G) sh s0 ears = ((((-1000006) : Int32).toInt64, p_find fd 5) : Int64 × Row) := by exact fits_t (lf_2 hs hn) (by decide) (fnd6 fd)
      exact fr_l hx hb hr hlocks hX hC ⟨as, 5⟩ (congrArg (fun z => some (Value.long z)) (t2_1 hs)) (congrArg (fun z => cct G (pg d kp as un to (upd sc 3 5) z tp sh) sp) (t2_2 hs)).symm dX0_fits_20
    · by_cases he : p_in ears 0 2
      · refine lv_aload_n hx hb dX0_fits_0 rfl (lv_at hl 0 rfl) ?_
        refine lv_iload_n hx hb dX0_fits_1 rfl (lv_at hl 1 rfl) ?_
        refine lv_iload_n hx hb dX0_fits_2 rfl (lv_at hl 2 rfl) ?_
        refine lv_iconst (v := 0) hx hb dX0_fits_3 rfl ?_
        refine lv_bipush (v := 36) hx hb dX0_fits_4 rfl ?_
        refine fc_V (As := [.int s0, .int ears, .int 0, .int 36]) (rest := []) hx hb hml hown hts hX hC (m_X0_allThatFit_3 hw s0 ears hG hs hn he) (lw_V q980 q982 qs29 q108 q983) hdV_X0_allThatFit ⟨rfl, rfl⟩ ⟨Nat.le_of_ble_eq_true rfl, Nat.le_of_ble_eq_true rfl⟩ (fx_recv (g := 5) (i := 0) (ci := 1) (q := (RX0, TX0, 13)) hX hC (cin rfl) rfl rfl) hl.1 rfl (Nat.le_of_ble_eq_true rfl) ⟨Nat.zero_le _, Nat.zero_le _⟩ dX0_fits_6 (fun u_3 H locs hC => ?_)
        refine W.eq (g2 := F0 m 9 ls [.long (lN (p_fit d sh (40 * ix s0) (G.sn (ix s0)) ears 3 36))]) rfl ?_
        have hs : s_fits d fd (swr G) (snr G) sh s0 ears = ((lN (p_fit d sh (40 * ix s0) (G.sn (ix s0)) ears 3 36), fd) : Int64 × Row) := by exact fits_ok hG hs hn he
        exact fr_l hx hb hr hlocks hX hC ⟨u_3, sc 3⟩ (congrArg (fun z => some (Value.long z)) (t2_1 hs)) ((congrArg (fun z => cct G (pg d kp u_3 un to (upd sc 3 (sc 3)) z tp sh) sp) (t2_2 hs)).trans (congrArg (fun z => cct G (pg d kp u_3 un to z fd tp sh) sp) ((upd_id sc 3).symm))).symm dX0_fits_9
      · refine lv_aload_n hx hb dX0_fits_0 rfl (lv_at hl 0 rfl) ?_
        refine lv_iload_n hx hb dX0_fits_1 rfl (lv_at hl 1 rfl) ?_
        refine lv_iload_n hx hb dX0_fits_2 rfl (lv_at hl 2 rfl) ?_
        refine lv_iconst (v := 0) hx hb dX0_fits_3 rfl ?_
        refine lv_bipush (v := 36) hx hb dX0_fits_4 rfl ?_
        refine fc_VT (As := [.int s0, .int ears, .int 0, .int 36]) (rest := []) hx hb hml hown hts hX hC (m_X0_allThatFit_t3 s0 ears 0 36 hs hn he) (lw_V q980 q982 qs29 q108 q983) hdV_X0_allThatFit ⟨rfl, rfl⟩ ⟨Nat.le_of_ble_eq_true rfl, Nat.le_of_ble_eq_true rfl⟩ (fx_recv (g := 5) (i := 0) (ci := 1) (q := (RX0, TX0, 13)) hX hC (cin rfl) rfl rfl) hl.1 rfl (Nat.le_of_ble_eq_true rfl) ⟨Nat.zero_le _, Nat.zero_le _⟩ dX0_fits_6 (fun _ H locs hC => ?_)
        refine fx_catch (own := "OwlEars") (name := "OwlEars$Refusal") hown (hts _ q141) hE (by decide) (by decide) (by decide) (fx_recv (g := 5) (i := 1) (ci := 2) (q := (RX1, TX1, 7)) hX hC (cin rfl) rfl rfl) ?_
        refine lv_astore_n (lv' := [(3, .ref (G.ad 5 1)), (0, .ref (G.ad 5 0)), (1, .int s0), (2, .int ears)]) hx hb dX0_fits_10 rfl hl (by decide) rfl (fun ls hl => ?_)
        refine lv_aload_n hx hb dX0_fits_11 rfl (lv_at hl 1 rfl) ?_
        refine lv_aload_n hx hb dX0_fits_12 rfl (lv_at hl 0 rfl) ?_
        refine fg_getN (C := RX1) (T := TX1) (N := 7) (ci := 2) (g := 5) (i := 1) (v := .int 0) hx hb hown hts hX hC in_X1 rfl (cin rfl) rfl 6 (by decide) (hX.2.2.1.F q193) (fun _ h => h) rfl dX0_fits_13 ?_
        refine fc_V (As := [.int 0]) (rest := []) hx hb hml hown hts hX hC (m_X0_finding 0 (vin_b rfl)) (lw_V q472 q474 qs2 q108 q475) hdV_X0_finding ⟨rfl, rfl⟩ ⟨Nat.le_of_ble_eq_true rfl, Nat.le_of_ble_eq_true rfl⟩ (fx_recv (g := 5) (i := 0) (ci := 1) (q := (RX0, TX0, 13)) hX hC (cin rfl) rfl rfl) hl.1 rfl (Nat.le_of_ble_eq_true rfl) ⟨Nat.zero_le _, Nat.zero_le _⟩ dX0_fits_16 (fun _ H locs hC => ?_)
        refine W.eq (g2 := F0 m 19 ls [.int (-1000001)]) rfl ?_
        refine lv_i2l (v := ((-1000001) : Int32).toInt64) hx hb dX0_fits_19 rfl ?_
        have hs : s_fits d fd (swr G) (snr G) sh s0 ears = ((((-1000001) : Int32).toInt64, p_find fd 0) : Int64 × Row) := by exact fits_t (lf_3 hG hs hn he) (by decide) (fnd1 fd)
        exact fr_l hx hb hr hlocks hX hC ⟨as, 0⟩ (congrArg (fun z => some (Value.long z)) (t2_1 hs)) (congrArg (fun z => cct G (pg d kp as un to (upd sc 3 0) z tp sh) sp) (t2_2 hs)).symm dX0_fits_20
  · refine lv_aload_n hx hb dX0_fits_0 rfl (lv_at hl 0 rfl) ?_
    refine lv_iload_n hx hb dX0_fits_1 rfl (lv_at hl 1 rfl) ?_
    refine lv_iload_n hx hb dX0_fits_2 rfl (lv_at hl 2 rfl) ?_
    refine lv_iconst (v := 0) hx hb dX0_fits_3 rfl ?_
    refine lv_bipush (v := 36) hx hb dX0_fits_4 rfl ?_
    refine fc_VT (As := [.int s0, .int ears, .int 0, .int 36]) (rest := []) hx hb hml hown hts hX hC (m_X0_allThatFit_t1 s0 ears 0 36 hs) (lw_V q980 q982 qs29 q108 q983) hdV_X0_allThatFit ⟨rfl, rfl⟩ ⟨Nat.le_of_ble_eq_true rfl, Nat.le_of_ble_eq_true rfl⟩ (fx_recv (g := 5) (i := 0) (ci := 1) (q := (RX0, TX0, 13)) hX hC (cin rfl) rfl rfl) hl.1 rfl (Nat.le_of_ble_eq_true rfl) ⟨Nat.zero_le _, Nat.zero_le _⟩ dX0_fits_6 (fun _ H locs hC => ?_)
    refine fx_catch (own := "OwlEars") (name := "OwlEars$Refusal") hown (hts _ q141) hE (by decide) (by decide) (by decide) (fx_recv (g := 5) (i := 1) (ci := 2) (q := (RX1, TX1, 7)) hX hC (cin rfl) rfl rfl) ?_
    refine lv_astore_n (lv' := [(3, .ref (G.ad 5 1)), (0, .ref (G.ad 5 0)), (1, .int s0), (2, .int ears)]) hx hb dX0_fits_10 rfl hl (by decide) rfl (fun ls hl => ?_)
    refine lv_aload_n hx hb dX0_fits_11 rfl (lv_at hl 1 rfl) ?_
    refine lv_aload_n hx hb dX0_fits_12 rfl (lv_at hl 0 rfl) ?_
    refine fg_getN (C := RX1) (T := TX1) (N := 7) (ci := 2) (g := 5) (i := 1) (v := .int 0) hx hb hown hts hX hC in_X1 rfl (cin rfl) rfl 6 (by decide) (hX.2.2.1.F q193) (fun _ h => h) rfl dX0_fits_13 ?_
    refine fc_V (As := [.int 0]) (rest := []) hx hb hml hown hts hX hC (m_X0_finding 0 (vin_b rfl)) (lw_V q472 q474 qs2 q108 q475) hdV_X0_finding ⟨rfl, rfl⟩ ⟨Nat.le_of_ble_eq_true rfl, Nat.le_of_ble_eq_true rfl⟩ (fx_recv (g := 5) (i := 0) (ci := 1) (q := (RX0, TX0, 13)) hX hC (cin rfl) rfl rfl) hl.1 rfl (Nat.le_of_ble_eq_true rfl) ⟨Nat.zero_le _, Nat.zero_le _⟩ dX0_fits_16 (fun _ H locs hC => ?_)
    refine W.eq (g2 := F0 m 19 ls [.int (-1000001)]) rfl ?_
    refine lv_i2l (v := ((-1000001) : Int32).toInt64) hx hb dX0_fits_19 rfl ?_
    have hs : s_fits d fd (swr G) (snr G) sh s0 ears = ((((-1000001) : Int32).toInt64, p_find fd 0) : Int64 × Row) := by exact fits_t (lf_1 hs) (by decide) (fnd1 fd)
    exact fr_l hx hb hr hlocks hX hC ⟨as, 0⟩ (congrArg (fun z => some (Value.long z)) (t2_1 hs)) (congrArg (fun z => cct G (pg d kp as un to (upd sc 3 0) z tp sh) sp) (t2_2 hs)).symm dX0_fits_20
set_option maxRecDepth 100000 in
theorem m_X0_headings {l : Launch} {G : Gc} {d kp as un to sc fd tp sh : Row} {sp : Nat → Option Nat} (hw : WF d) (s0 ears : Int32) (hG : GW G) : Cm l yX0_headings (wsW_ yX0_headings cX0_headings 4 (some .int) [(0, 11, 12, 54)]) ({ frames := 7, cells := 0, slots := 0, locals := 159 }) (cF G) [.ref (G.ad 5 0), .int s0, .int ears] (cct G (pg d kp as un to sc fd tp sh) sp) (fun u : Row × Int32 => some (.int ((s_headings d fd (swr G) (snr G) sh s0 ears).1))) (fun u => cct G (pg d kp u.1 un to (upd sc 3 u.2) ((s_headings d fd (swr G) (snr G) sh s0 ears).2) tp sh) sp) := by
  refine Cm.startH (by decide) (Nat.le_of_ble_eq_true rfl) ?_
  intro p e s m below meth c hf hE hX hC ls hl
  obtain ⟨hx, hb, hr, hml, hown, hts, hlocks⟩ := hf
  have hl : lv_has ls 4 [(0, .ref (G.ad 5 0)), (1, .int s0), (2, .int ears)] := hl
  have hown : s.vm.findClass "OwlEars" = some m.cls := hown
  by_cases hs : p_in s0 0 3
  · by_cases hn : G.sw (ix s0) = 0
    · refine lv_aload_n hx hb dX0_headings_0 rfl (lv_at hl 0 rfl) ?_
      refine lv_iload_n hx hb dX0_headings_1 rfl (lv_at hl 1 rfl) ?_
      refine lv_iload_n hx hb dX0_headings_2 rfl (lv_at hl 2 rfl) ?_
      refine lv_iconst (v := 1) hx hb dX0_headings_3 rfl ?_
      refine lv_iconst (v := 4) hx hb dX0_headings_4 rfl ?_
      refine fc_VT (As := [.int s0, .int ears, .int 1, .int 4]) (rest := []) hx hb hml hown hts hX hC (m_X0_allThatFit_t2 s0 ears 1 4 hs hn) (lw_V q980 q982 qs29 q108 q983) hdV_X0_allThatFit ⟨rfl, rfl⟩ ⟨Nat.le_of_ble_eq_true rfl, Nat.le_of_ble_eq_true rfl⟩ (fx_recv (g := 5) (i := 0) (ci := 1) (q := (RX0, TX0, 13)) hX hC (cin rfl) rfl rfl) hl.1 rfl (Nat.le_of_ble_eq_true rfl) ⟨Nat.zero_le _, Nat.zero_le _⟩ dX0_headings_5 (fun _ H locs hC => ?_)
      refine fx_catch (own := "OwlEars") (name := "OwlEars$Refusal") hown (hts _ q141) hE (by decide) (by decide) (by decide) (fx_recv (g := 5) (i := 1) (ci := 2) (q := (RX1, TX1, 7)) hX hC (cin rfl) rfl rfl) ?_
      refine lv_astore_n (lv' := [(3, .ref (G.ad 5 1)), (0, .ref (G.ad 5 0)), (1, .int s0), (2, .int ears)]) hx hb dX0_headings_12 rfl hl (by decide) rfl (fun ls hl => ?_)
      refine lv_aload_n hx hb dX0_headings_13 rfl (lv_at hl 1 rfl) ?_
      refine lv_aload_n hx hb dX0_headings_14 rfl (lv_at hl 0 rfl) ?_
      refine fg_getN (C := RX1) (T := TX1) (N := 7) (ci := 2) (g := 5) (i := 1) (v := .int 5) hx hb hown hts hX hC in_X1 rfl (cin rfl) rfl 6 (by decide) (hX.2.2.1.F q193) (fun _ h => h) rfl dX0_headings_15 ?_
      refine fc_V (As := [.int 5]) (rest := []) hx hb hml hown hts hX hC (m_X0_finding 5 (vin_b rfl)) (lw_V q472 q474 qs2 q108 q475) hdV_X0_finding ⟨rfl, rfl⟩ ⟨Nat.le_of_ble_eq_true rfl, Nat.le_of_ble_eq_true rfl⟩ (fx_recv (g := 5) (i := 0) (ci := 1) (q := (RX0, TX0, 13)) hX hC (cin rfl) rfl rfl) hl.1 rfl (Nat.le_of_ble_eq_true rfl) ⟨Nat.zero_le _, Nat.zero_le _⟩ dX0_headings_18 (fun _ H locs hC => ?_)
      refine W.eq (g2 := F0 m 21 ls [.int (-1000006)]) rfl ?_
      have hs : s_headings d fd (swr G) (snr G) sh s0 ears = (((-1000006), p_find fd 5) : Int32 × Row) := by exact heads_t (lf_2 hs hn) (by decide) (fnd6 fd)
      exact fr_i hx hb hr hlocks hX hC ⟨as, 5⟩ (congrArg (fun z => some (Value.int z)) (t2_1 hs)) (congrArg (fun z => cct G (pg d kp as un to (upd sc 3 5) z tp sh) sp) (t2_2 hs)).symm dX0_headings_21
    · by_cases he : p_in ears 0 2
      · refine lv_aload_n hx hb dX0_headings_0 rfl (lv_at hl 0 rfl) ?_
        refine lv_iload_n hx hb dX0_headings_1 rfl (lv_at hl 1 rfl) ?_
        refine lv_iload_n hx hb dX0_headings_2 rfl (lv_at hl 2 rfl) ?_
        refine lv_iconst (v := 1) hx hb dX0_headings_3 rfl ?_
        refine lv_iconst (v := 4) hx hb dX0_headings_4 rfl ?_
        refine fc_V (As := [.int s0, .int ears, .int 1, .int 4]) (rest := []) hx hb hml hown hts hX hC (m_X0_allThatFit_4 hw s0 ears hG hs hn he) (lw_V q980 q982 qs29 q108 q983) hdV_X0_allThatFit ⟨rfl, rfl⟩ ⟨Nat.le_of_ble_eq_true rfl, Nat.le_of_ble_eq_true rfl⟩ (fx_recv (g := 5) (i := 0) (ci := 1) (q := (RX0, TX0, 13)) hX hC (cin rfl) rfl rfl) hl.1 rfl (Nat.le_of_ble_eq_true rfl) ⟨Nat.zero_le _, Nat.zero_le _⟩ dX0_headings_5 (fun u_3 H locs hC => ?_)
        refine W.eq (g2 := F0 m 8 ls [.long (lN (p_fit d sh (40 * ix s0) (G.sn (ix s0)) ears 4 4))]) rfl ?_
        refine fc_S (As := [.long (lN (p_fit d sh (40 * ix s0) (G.sn (ix s0)) ears 4 4))]) (rest := []) hx hb hml hown hts hX hC (m_J5_bitCount (p_fit d sh (40 * ix s0) (G.sn (ix s0)) ears 4 4) (show p_set _ 4 < 16 from p_set_lt _ 4)) (lw_S q1020 q1021 q128 q1022) hdS_J5_bitCount ⟨rfl, rfl⟩ ⟨Nat.le_of_ble_eq_true rfl, Nat.le_of_ble_eq_true rfl⟩ hl.1 rfl (Nat.le_of_ble_eq_true rfl) ⟨Nat.zero_le _, Nat.zero_le _⟩ dX0_headings_8 (fun _ H locs hC => ?_)
        refine W.eq (g2 := F0 m 11 ls [.int (nI (p_pop (p_fit d sh (40 * ix s0) (G.sn (ix s0)) ears 4 4)))]) rfl ?_
        have hs : s_headings d fd (swr G) (snr G) sh s0 ears = ((nI (p_pop (p_fit d sh (40 * ix s0) (G.sn (ix s0)) ears 4 4)), fd) : Int32 × Row) := by exact heads_ok hG hs hn he
        exact fr_i hx hb hr hlocks hX hC ⟨u_3, sc 3⟩ (congrArg (fun z => some (Value.int z)) (t2_1 hs)) ((congrArg (fun z => cct G (pg d kp u_3 un to (upd sc 3 (sc 3)) z tp sh) sp) (t2_2 hs)).trans (congrArg (fun z => cct G (pg d kp u_3 un to z fd tp sh) sp) ((upd_id sc 3).symm))).symm dX0_headings_11
      · refine lv_aload_n hx hb dX0_headings_0 rfl (lv_at hl 0 rfl) ?_
        refine lv_iload_n hx hb dX0_headings_1 rfl (lv_at hl 1 rfl) ?_
        refine lv_iload_n hx hb dX0_headings_2 rfl (lv_at hl 2 rfl) ?_
        refine lv_iconst (v := 1) hx hb dX0_headings_3 rfl ?_
        refine lv_iconst (v := 4) hx hb dX0_headings_4 rfl ?_
        refine fc_VT (As := [.int s0, .int ears, .int 1, .int 4]) (rest := []) hx hb hml hown hts hX hC (m_X0_allThatFit_t3 s0 ears 1 4 hs hn he) (lw_V q980 q982 qs29 q108 q983) hdV_X0_allThatFit ⟨rfl, rfl⟩ ⟨Nat.le_of_ble_eq_true rfl, Nat.le_of_ble_eq_true rfl⟩ (fx_recv (g := 5) (i := 0) (ci := 1) (q := (RX0, TX0, 13)) hX hC (cin rfl) rfl rfl) hl.1 rfl (Nat.le_of_ble_eq_true rfl) ⟨Nat.zero_le _, Nat.zero_le _⟩ dX0_headings_5 (fun _ H locs hC => ?_)
        refine fx_catch (own := "OwlEars") (name := "OwlEars$Refusal") hown (hts _ q141) hE (by decide) (by decide) (by decide) (fx_recv (g := 5) (i := 1) (ci := 2) (q := (RX1, TX1, 7)) hX hC (cin rfl) rfl rfl) ?_
        refine lv_astore_n (lv' := [(3, .ref (G.ad 5 1)), (0, .ref (G.ad 5 0)), (1, .int s0), (2, .int ears)]) hx hb dX0_headings_12 rfl hl (by decide) rfl (fun ls hl => ?_)
        refine lv_aload_n hx hb dX0_headings_13 rfl (lv_at hl 1 rfl) ?_
        refine lv_aload_n hx hb dX0_headings_14 rfl (lv_at hl 0 rfl) ?_
        refine fg_getN (C := RX1) (T := TX1) (N := 7) (ci := 2) (g := 5) (i := 1) (v := .int 0) hx hb hown hts hX hC in_X1 rfl (cin rfl) rfl 6 (by decide) (hX.2.2.1.F q193) (fun _ h => h) rfl dX0_headings_15 ?_
        refine fc_V (As := [.int 0]) (rest := []) hx hb hml hown hts hX hC (m_X0_finding 0 (vin_b rfl)) (lw_V q472 q474 qs2 q108 q475) hdV_X0_finding ⟨rfl, rfl⟩ ⟨Nat.le_of_ble_eq_true rfl, Nat.le_of_ble_eq_true rfl⟩ (fx_recv (g := 5) (i := 0) (ci := 1) (q := (RX0, TX0, 13)) hX hC (cin rfl) rfl rfl) hl.1 rfl (Nat.le_of_ble_eq_true rfl) ⟨Nat.zero_le _, Nat.zero_le _⟩ dX0_headings_18 (fun _ H locs hC => ?_)
        refine W.eq (g2 := F0 m 21 ls [.int (-1000001)]) rfl ?_
        have hs : s_headings d fd (swr G) (snr G) sh s0 ears = (((-1000001), p_find fd 0) : Int32 × Row) := by exact heads_t (lf_3 hG hs hn he) (by decide) (fnd1 fd)
        exact fr_i hx hb hr hlocks hX hC ⟨as, 0⟩ (congrArg (fun z => some (Value.int z)) (t2_1 hs)) (congrArg (fun z => cct G (pg d kp as un to (upd sc 3 0) z tp sh) sp) (t2_2 hs)).symm dX0_headings_21
  · refine lv_aload_n hx hb dX0_headings_0 rfl (lv_at hl 0 rfl) ?_
    refine lv_iload_n hx hb dX0_headings_1 rfl (lv_at hl 1 rfl) ?_
    refine lv_iload_n hx hb dX0_headings_2 rfl (lv_at hl 2 rfl) ?_
    refine lv_iconst (v := 1) hx hb dX0_headings_3 rfl ?_
    refine lv_iconst (v := 4) hx hb dX0_headings_4 rfl ?_
    refine fc_VT (As := [.int s0, .int ears, .int 1, .int 4]) (rest := []) hx hb hml hown hts hX hC (m_X0_allThatFit_t1 s0 ears 1 4 hs) (lw_V q980 q982 qs29 q108 q983) hdV_X0_allThatFit ⟨rfl, rfl⟩ ⟨Nat.le_of_ble_eq_true rfl, Nat.le_of_ble_eq_true rfl⟩ (fx_recv (g := 5) (i := 0) (ci := 1) (q := (RX0, TX0, 13)) hX hC (cin rfl) rfl rfl) hl.1 rfl (Nat.le_of_ble_eq_true rfl) ⟨Nat.zero_le _, Nat.zero_le _⟩ dX0_headings_5 (fun _ H locs hC => ?_)
    refine fx_catch (own := "OwlEars") (name := "OwlEars$Refusal") hown (hts _ q141) hE (by decide) (by decide) (by decide) (fx_recv (g := 5) (i := 1) (ci := 2) (q := (RX1, TX1, 7)) hX hC (cin rfl) rfl rfl) ?_
    refine lv_astore_n (lv' := [(3, .ref (G.ad 5 1)), (0, .ref (G.ad 5 0)), (1, .int s0), (2, .int ears)]) hx hb dX0_headings_12 rfl hl (by decide) rfl (fun ls hl => ?_)
    refine lv_aload_n hx hb dX0_headings_13 rfl (lv_at hl 1 rfl) ?_
    refine lv_aload_n hx hb dX0_headings_14 rfl (lv_at hl 0 rfl) ?_
    refine fg_getN (C := RX1) (T := TX1) (N := 7) (ci := 2) (g := 5) (i := 1) (v := .int 0) hx hb hown hts hX hC in_X1 rfl (cin rfl) rfl 6 (by decide) (hX.2.2.1.F q193) (fun _ h => h) rfl dX0_headings_15 ?_
    refine fc_V (As := [.int 0]) (rest := []) hx hb hml hown hts hX hC (m_X0_finding 0 (vin_b rfl)) (lw_V q472 q474 qs2 q108 q475) hdV_X0_finding ⟨rfl, rfl⟩ ⟨Nat.le_of_ble_eq_true rfl, Nat.le_of_ble_eq_true rfl⟩ (fx_recv (g := 5) (i := 0) (ci := 1) (q := (RX0, TX0, 13)) hX hC (cin rfl) rfl rfl) hl.1 rfl (Nat.le_of_ble_eq_true rfl) ⟨Nat.zero_le _, Nat.zero_le _⟩ dX0_headings_18 (fun _ H locs hC => ?_)
    refine W.eq (g2 := F0 m 21 ls [.int (-1000001)]) rfl ?_
    have hs : s_headings d fd (swr G) (snr G) sh s0 ears = (((-1000001), p_find fd 0) : Int32 × Row) := by exact heads_t (lf_1 hs) (by decide) (fnd1 fd)
    exact fr_i hx hb hr hlocks hX hC ⟨as, 0⟩ (congrArg (fun z => some (Value.int z)) (t2_1 hs)) (congrArg (fun z => cct G (pg d kp as un to (upd sc 3 0) z tp sh) sp) (t2_2 hs)).symm dX0_headings_21
set_option maxRecDepth 100000 in
theorem m_X0_write {l : Launch} {G : Gc} {d kp as un to sc fd tp sh : Row} {sp : Nat → Option Nat} (s0 i v : Int32) (hG : GW G) : Cm l yX0_write (wsW_ yX0_write cX0_write 5 (some .int) [(0, 47, 48, 54)]) ({ frames := 3, cells := 0, slots := 0, locals := 64 }) (cF G) [.ref (G.ad 5 0), .int s0, .int i, .int v] (cct G (pg d kp as un to sc fd tp sh) sp) (fun u : Int32 => some (.int ((s_write fd (swr G) (snr G) sh s0 i v).1))) (fun u => cct G (pg d kp as un to (upd sc 3 u) ((s_write fd (swr G) (snr G) sh s0 i v).2.2) tp ((s_write fd (swr G) (snr G) sh s0 i v).2.1)) sp) := by
  refine Cm.startH (by decide) (Nat.le_of_ble_eq_true rfl) ?_
  intro p e s m below meth c hf hE hX hC ls hl
  obtain ⟨hx, hb, hr, hml, hown, hts, hlocks⟩ := hf
  have hl : lv_has ls 5 [(0, .ref (G.ad 5 0)), (1, .int s0), (2, .int i), (3, .int v)] := hl
  have hown : s.vm.findClass "OwlEars" = some m.cls := hown
  by_cases hs : p_in s0 0 3
  · by_cases hn : G.sw (ix s0) = 0
    · refine lv_aload_n hx hb dX0_write_0 rfl (lv_at hl 0 rfl) ?_
      refine lv_iload_n hx hb dX0_write_1 rfl (lv_at hl 1 rfl) ?_
      refine fc_V (As := [.int s0]) (rest := []) hx hb hml hown hts hX hC (m_X0_rowAt_0 s0 hs hn) (lw_V q984 q986 qs30 q108 q987) hdV_X0_rowAt ⟨rfl, rfl⟩ ⟨Nat.le_of_ble_eq_true rfl, Nat.le_of_ble_eq_true rfl⟩ (fx_recv (g := 5) (i := 0) (ci := 1) (q := (RX0, TX0, 13)) hX hC (cin rfl) rfl rfl) hl.1 rfl (Nat.le_of_ble_eq_true rfl) ⟨Nat.zero_le _, Nat.zero_le _⟩ dX0_write_2 (fun _ H locs hC => ?_)
      refine W.eq (g2 := F0 m 5 ls [.null]) rfl ?_
      refine lv_astoreN (lv' := [(4, .null), (0, .ref (G.ad 5 0)), (1, .int s0), (2, .int i), (3, .int v)]) hx hb dX0_write_5 hl (by decide) rfl (fun ls hl => ?_)
      refine lv_aload_n hx hb dX0_write_7 rfl (lv_at hl 1 rfl) ?_
      refine lv_aloadN hx hb dX0_write_8 (lv_at hl 0 rfl) ?_
      refine lv_ifnullN (tgt := 17) hx hb dX0_write_10 (by decide) ?_
      refine lv_iconst (v := 0) hx hb dX0_write_17 rfl ?_
      refine lv_iconst (v := 5) hx hb dX0_write_18 rfl ?_
      refine fc_VT (As := [.int 0, .int 5]) (rest := []) hx hb hml hown hts hX hC (m_X0_need_0 5) (lw_V q991 q993 qs31 q108 q994) hdV_X0_need ⟨rfl, rfl⟩ ⟨Nat.le_of_ble_eq_true rfl, Nat.le_of_ble_eq_true rfl⟩ (fx_recv (g := 5) (i := 0) (ci := 1) (q := (RX0, TX0, 13)) hX hC (cin rfl) rfl rfl) hl.1 rfl (Nat.le_of_ble_eq_true rfl) ⟨Nat.zero_le _, Nat.zero_le _⟩ dX0_write_19 (fun _ H locs hC => ?_)
      refine fx_catch (own := "OwlEars") (name := "OwlEars$Refusal") hown (hts _ q141) hE (by decide) (by decide) (by decide) (fx_recv (g := 5) (i := 1) (ci := 2) (q := (RX1, TX1, 7)) hX hC (cin rfl) rfl rfl) ?_
      refine lv_astore (lv' := [(4, .ref (G.ad 5 1)), (0, .ref (G.ad 5 0)), (1, .int s0), (2, .int i), (3, .int v)]) hx hb dX0_write_48 hl (by decide) rfl (fun ls hl => ?_)
      refine lv_aload_n hx hb dX0_write_50 rfl (lv_at hl 1 rfl) ?_
      refine lv_aload hx hb dX0_write_51 (lv_at hl 0 rfl) ?_
      refine fg_getN (C := RX1) (T := TX1) (N := 7) (ci := 2) (g := 5) (i := 1) (v := .int 5) hx hb hown hts hX hC in_X1 rfl (cin rfl) rfl 6 (by decide) (hX.2.2.1.F q193) (fun _ h => h) rfl dX0_write_53 ?_
      refine fc_V (As := [.int 5]) (rest := []) hx hb hml hown hts hX hC (m_X0_finding 5 (vin_b rfl)) (lw_V q472 q474 qs2 q108 q475) hdV_X0_finding ⟨rfl, rfl⟩ ⟨Nat.le_of_ble_eq_true rfl, Nat.le_of_ble_eq_true rfl⟩ (fx_recv (g := 5) (i := 0) (ci := 1) (q := (RX0, TX0, 13)) hX hC (cin rfl) rfl rfl) hl.1 rfl (Nat.le_of_ble_eq_true rfl) ⟨Nat.zero_le _, Nat.zero_le _⟩ dX0_write_56 (fun _ H locs hC => ?_)
      refine W.eq (g2 := F0 m 59 ls [.int (-1000006)]) rfl ?_
      have hs : s_write fd (swr G) (snr G) sh s0 i v = (((-1000006), sh, p_find fd 5) : Int32 × Row × Row) := by exact write_t (lk_2 hs hn) (by decide) (fnd6 fd)
      exact fr_i hx hb hr hlocks hX hC 5 (congrArg (fun z => some (Value.int z)) (t3_1 hs)) ((congrArg (fun z => cct G (pg d kp as un to (upd sc 3 5) ((s_write fd (swr G) (snr G) sh s0 i v).2.2) tp z) sp) (t3_2 hs)).trans (congrArg (fun z => cct G (pg d kp as un to (upd sc 3 5) z tp sh) sp) (t3_3 hs))).symm dX0_write_59
    · by_cases hj : p_in i 0 (nI ((G.sn (ix s0))) - 1)
      · refine lv_aload_n hx hb dX0_write_0 rfl (lv_at hl 0 rfl) ?_
        refine lv_iload_n hx hb dX0_write_1 rfl (lv_at hl 1 rfl) ?_
        refine fc_V (As := [.int s0]) (rest := []) hx hb hml hown hts hX hC (m_X0_rowAt_n s0 hs hn) (lw_V q984 q986 qs30 q108 q987) hdV_X0_rowAt ⟨rfl, rfl⟩ ⟨Nat.le_of_ble_eq_true rfl, Nat.le_of_ble_eq_true rfl⟩ (fx_recv (g := 5) (i := 0) (ci := 1) (q := (RX0, TX0, 13)) hX hC (cin rfl) rfl rfl) hl.1 rfl (Nat.le_of_ble_eq_true rfl) ⟨Nat.zero_le _, Nat.zero_le _⟩ dX0_write_2 (fun _ H locs hC => ?_)
        refine W.eq (g2 := F0 m 5 ls [.ref (G.ad 10 (ix s0))]) rfl ?_
        refine lv_astore (lv' := [(4, .ref (G.ad 10 (ix s0))), (0, .ref (G.ad 5 0)), (1, .int s0), (2, .int i), (3, .int v)]) hx hb dX0_write_5 hl (by decide) rfl (fun ls hl => ?_)
        refine lv_aload_n hx hb dX0_write_7 rfl (lv_at hl 1 rfl) ?_
        refine lv_aload hx hb dX0_write_8 (lv_at hl 0 rfl) ?_
        refine lv_ifnull hx hb dX0_write_10 ?_
        refine lv_iconst (v := 1) hx hb dX0_write_13 rfl ?_
        refine lv_goto (tgt := 18) hx hb dX0_write_14 (by decide) ?_
        refine lv_iconst (v := 5) hx hb dX0_write_18 rfl ?_
        refine fc_V (As := [.int 1, .int 5]) (rest := []) hx hb hml hown hts hX hC (m_X0_need_1 5) (lw_V q991 q993 qs31 q108 q994) hdV_X0_need ⟨rfl, rfl⟩ ⟨Nat.le_of_ble_eq_true rfl, Nat.le_of_ble_eq_true rfl⟩ (fx_recv (g := 5) (i := 0) (ci := 1) (q := (RX0, TX0, 13)) hX hC (cin rfl) rfl rfl) hl.1 rfl (Nat.le_of_ble_eq_true rfl) ⟨Nat.zero_le _, Nat.zero_le _⟩ dX0_write_19 (fun _ H locs hC => ?_)
        refine W.eq (g2 := F0 m 22 ls []) rfl ?_
        refine lv_aload_n hx hb dX0_write_22 rfl (lv_at hl 1 rfl) ?_
        refine lv_iload_n hx hb dX0_write_23 rfl (lv_at hl 3 rfl) ?_
        refine lv_iconst (v := 0) hx hb dX0_write_24 rfl ?_
        refine lv_aload hx hb dX0_write_25 (lv_at hl 0 rfl) ?_
        refine fc_S (As := [.ref (G.ad 10 (ix s0))]) (rest := [.int 0, .int i, .ref (G.ad 5 0)]) hx hb hml hown hts hX hC (m_X0_length (ix s0) (vin_lt (vin_of hs 4 (by decide))) hG hn) (lw_S q1003 q1004 q108 q1005) hdS_X0_length ⟨rfl, rfl⟩ ⟨Nat.le_of_ble_eq_true rfl, Nat.le_of_ble_eq_true rfl⟩ hl.1 rfl (Nat.le_of_ble_eq_true rfl) ⟨Nat.zero_le _, Nat.zero_le _⟩ dX0_write_27 (fun _ H locs hC => ?_)
        refine W.eq (g2 := F0 m 30 ls [.int (nI ((G.sn (ix s0)))), .int 0, .int i, .ref (G.ad 5 0)]) rfl ?_
        refine lv_iconst (v := 1) hx hb dX0_write_30 rfl ?_
        refine lv_isub hx hb dX0_write_31 ?_
        refine fc_S (As := [.int i, .int 0, .int ((nI ((G.sn (ix s0)))) - 1)]) (rest := [.ref (G.ad 5 0)]) hx hb hml hown hts hX hC (m_X0_in i 0 ((nI ((G.sn (ix s0)))) - 1)) (lw_S q469 q470 q108 q471) hdS_X0_in ⟨rfl, rfl⟩ ⟨Nat.le_of_ble_eq_true rfl, Nat.le_of_ble_eq_true rfl⟩ hl.1 rfl (Nat.le_of_ble_eq_true rfl) ⟨Nat.zero_le _, Nat.zero_le _⟩ dX0_write_32 (fun _ H locs hC => ?_)
        refine W.eq (g2 := F0 m 35 ls [.int (b2i (p_in i 0 ((nI ((G.sn (ix s0)))) - 1))), .ref (G.ad 5 0)]) rfl ?_
        refine lv_iconst (v := 0) hx hb dX0_write_35 rfl ?_
        refine fc_V (As := [.int (b2i (p_in i 0 ((nI ((G.sn (ix s0)))) - 1))), .int 0]) (rest := []) hx hb hml hown hts hX hC (m_X0_need_t (p_in i 0 ((nI ((G.sn (ix s0)))) - 1)) hj 0) (lw_V q991 q993 qs31 q108 q994) hdV_X0_need ⟨rfl, rfl⟩ ⟨Nat.le_of_ble_eq_true rfl, Nat.le_of_ble_eq_true rfl⟩ (fx_recv (g := 5) (i := 0) (ci := 1) (q := (RX0, TX0, 13)) hX hC (cin rfl) rfl rfl) hl.1 rfl (Nat.le_of_ble_eq_true rfl) ⟨Nat.zero_le _, Nat.zero_le _⟩ dX0_write_36 (fun _ H locs hC => ?_)
        refine W.eq (g2 := F0 m 39 ls []) rfl ?_
        refine lv_aload hx hb dX0_write_39 (lv_at hl 0 rfl) ?_
        refine lv_iload_n hx hb dX0_write_41 rfl (lv_at hl 3 rfl) ?_
        refine lv_iload_n hx hb dX0_write_42 rfl (lv_at hl 4 rfl) ?_
        refine fc_S (As := [.ref (G.ad 10 (ix s0)), .int i, .int v]) (rest := []) hx hb hml hown hts hX hC (m_X0_lay (ix s0) (vin_lt (vin_of hs 4 (by decide))) hG hn i v (in_sn hj (hG _ (vin_lt (vin_of hs 4 (by decide)))).2)) (lw_S q1228 q1229 q108 q1230) hdS_X0_lay ⟨rfl, rfl⟩ ⟨Nat.le_of_ble_eq_true rfl, Nat.le_of_ble_eq_true rfl⟩ hl.1 rfl (Nat.le_of_ble_eq_true rfl) ⟨Nat.zero_le _, Nat.zero_le _⟩ dX0_write_43 (fun _ H locs hC => ?_)
        refine W.eq (g2 := F0 m 46 ls []) rfl ?_
        refine lv_iconst (v := 1) hx hb dX0_write_46 rfl ?_
        have hs : s_write fd (swr G) (snr G) sh s0 i v = ((1, upd sh (40 * (ix s0) + ix i) (p_cut v (nI (G.sw (ix s0)))), fd) : Int32 × Row × Row) := by exact write_ok hG hs hn hj
        exact fr_i hx hb hr hlocks hX hC (sc 3) (congrArg (fun z => some (Value.int z)) (t3_1 hs)) (((congrArg (fun z => cct G (pg d kp as un to (upd sc 3 (sc 3)) ((s_write fd (swr G) (snr G) sh s0 i v).2.2) tp z) sp) (t3_2 hs)).trans (congrArg (fun z => cct G (pg d kp as un to (upd sc 3 (sc 3)) z tp (upd sh (40 * (ix s0) + ix i) (p_cut v (nI (G.sw (ix s0)))))) sp) (t3_3 hs))).trans (congrArg (fun z => cct G (pg d kp as un to z fd tp (upd sh (40 * (ix s0) + ix i) (p_cut v (nI (G.sw (ix s0)))))) sp) ((upd_id sc 3).symm))).symm dX0_write_47
      · refine lv_aload_n hx hb dX0_write_0 rfl (lv_at hl 0 rfl) ?_
        refine lv_iload_n hx hb dX0_write_1 rfl (lv_at hl 1 rfl) ?_
        refine fc_V (As := [.int s0]) (rest := []) hx hb hml hown hts hX hC (m_X0_rowAt_n s0 hs hn) (lw_V q984 q986 qs30 q108 q987) hdV_X0_rowAt ⟨rfl, rfl⟩ ⟨Nat.le_of_ble_eq_true rfl, Nat.le_of_ble_eq_true rfl⟩ (fx_recv (g := 5) (i := 0) (ci := 1) (q := (RX0, TX0, 13)) hX hC (cin rfl) rfl rfl) hl.1 rfl (Nat.le_of_ble_eq_true rfl) ⟨Nat.zero_le _, Nat.zero_le _⟩ dX0_write_2 (fun _ H locs hC => ?_)
        refine W.eq (g2 := F0 m 5 ls [.ref (G.ad 10 (ix s0))]) rfl ?_
        refine lv_astore (lv' := [(4, .ref (G.ad 10 (ix s0))), (0, .ref (G.ad 5 0)), (1, .int s0), (2, .int i), (3, .int v)]) hx hb dX0_write_5 hl (by decide) rfl (fun ls hl => ?_)
        refine lv_aload_n hx hb dX0_write_7 rfl (lv_at hl 1 rfl) ?_
        refine lv_aload hx hb dX0_write_8 (lv_at hl 0 rfl) ?_
        refine lv_ifnull hx hb dX0_write_10 ?_
        refine lv_iconst (v := 1) hx hb dX0_write_13 rfl ?_
        refine lv_goto (tgt := 18) hx hb dX0_write_14 (by decide) ?_
        refine lv_iconst (v := 5) hx hb dX0_write_18 rfl ?_
        refine fc_V (As := [.int 1, .int 5]) (rest := []) hx hb hml hown hts hX hC (m_X0_need_1 5) (lw_V q991 q993 qs31 q108 q994) hdV_X0_need ⟨rfl, rfl⟩ ⟨Nat.le_of_ble_eq_true rfl, Nat.le_of_ble_eq_true rfl⟩ (fx_recv (g := 5) (i := 0) (ci := 1) (q := (RX0, TX0, 13)) hX hC (cin rfl) rfl rfl) hl.1 rfl (Nat.le_of_ble_eq_true rfl) ⟨Nat.zero_le _, Nat.zero_le _⟩ dX0_write_19 (fun _ H locs hC => ?_)
        refine W.eq (g2 := F0 m 22 ls []) rfl ?_
        refine lv_aload_n hx hb dX0_write_22 rfl (lv_at hl 1 rfl) ?_
        refine lv_iload_n hx hb dX0_write_23 rfl (lv_at hl 3 rfl) ?_
        refine lv_iconst (v := 0) hx hb dX0_write_24 rfl ?_
        refine lv_aload hx hb dX0_write_25 (lv_at hl 0 rfl) ?_
        refine fc_S (As := [.ref (G.ad 10 (ix s0))]) (rest := [.int 0, .int i, .ref (G.ad 5 0)]) hx hb hml hown hts hX hC (m_X0_length (ix s0) (vin_lt (vin_of hs 4 (by decide))) hG hn) (lw_S q1003 q1004 q108 q1005) hdS_X0_length ⟨rfl, rfl⟩ ⟨Nat.le_of_ble_eq_true rfl, Nat.le_of_ble_eq_true rfl⟩ hl.1 rfl (Nat.le_of_ble_eq_true rfl) ⟨Nat.zero_le _, Nat.zero_le _⟩ dX0_write_27 (fun _ H locs hC => ?_)
        refine W.eq (g2 := F0 m 30 ls [.int (nI ((G.sn (ix s0)))), .int 0, .int i, .ref (G.ad 5 0)]) rfl ?_
        refine lv_iconst (v := 1) hx hb dX0_write_30 rfl ?_
        refine lv_isub hx hb dX0_write_31 ?_
        refine fc_S (As := [.int i, .int 0, .int ((nI ((G.sn (ix s0)))) - 1)]) (rest := [.ref (G.ad 5 0)]) hx hb hml hown hts hX hC (m_X0_in i 0 ((nI ((G.sn (ix s0)))) - 1)) (lw_S q469 q470 q108 q471) hdS_X0_in ⟨rfl, rfl⟩ ⟨Nat.le_of_ble_eq_true rfl, Nat.le_of_ble_eq_true rfl⟩ hl.1 rfl (Nat.le_of_ble_eq_true rfl) ⟨Nat.zero_le _, Nat.zero_le _⟩ dX0_write_32 (fun _ H locs hC => ?_)
        refine W.eq (g2 := F0 m 35 ls [.int (b2i (p_in i 0 ((nI ((G.sn (ix s0)))) - 1))), .ref (G.ad 5 0)]) rfl ?_
        refine lv_iconst (v := 0) hx hb dX0_write_35 rfl ?_
        refine fc_VT (As := [.int (b2i (p_in i 0 ((nI ((G.sn (ix s0)))) - 1))), .int 0]) (rest := []) hx hb hml hown hts hX hC (m_X0_need_f (p_in i 0 ((nI ((G.sn (ix s0)))) - 1)) hj 0) (lw_V q991 q993 qs31 q108 q994) hdV_X0_need ⟨rfl, rfl⟩ ⟨Nat.le_of_ble_eq_true rfl, Nat.le_of_ble_eq_true rfl⟩ (fx_recv (g := 5) (i := 0) (ci := 1) (q := (RX0, TX0, 13)) hX hC (cin rfl) rfl rfl) hl.1 rfl (Nat.le_of_ble_eq_true rfl) ⟨Nat.zero_le _, Nat.zero_le _⟩ dX0_write_36 (fun _ H locs hC => ?_)
        refine fx_catch (own := "OwlEars") (name := "OwlEars$Refusal") hown (hts _ q141) hE (by decide) (by decide) (by decide) (fx_recv (g := 5) (i := 1) (ci := 2) (q := (RX1, TX1, 7)) hX hC (cin rfl) rfl rfl) ?_
        refine lv_astore (lv' := [(4, .ref (G.ad 5 1)), (0, .ref (G.ad 5 0)), (1, .int s0), (2, .int i), (3, .int v)]) hx hb dX0_write_48 hl (by decide) rfl (fun ls hl => ?_)
        refine lv_aload_n hx hb dX0_write_50 rfl (lv_at hl 1 rfl) ?_
        refine lv_aload hx hb dX0_write_51 (lv_at hl 0 rfl) ?_
        refine fg_getN (C := RX1) (T := TX1) (N := 7) (ci := 2) (g := 5) (i := 1) (v := .int 0) hx hb hown hts hX hC in_X1 rfl (cin rfl) rfl 6 (by decide) (hX.2.2.1.F q193) (fun _ h => h) rfl dX0_write_53 ?_
        refine fc_V (As := [.int 0]) (rest := []) hx hb hml hown hts hX hC (m_X0_finding 0 (vin_b rfl)) (lw_V q472 q474 qs2 q108 q475) hdV_X0_finding ⟨rfl, rfl⟩ ⟨Nat.le_of_ble_eq_true rfl, Nat.le_of_ble_eq_true rfl⟩ (fx_recv (g := 5) (i := 0) (ci := 1) (q := (RX0, TX0, 13)) hX hC (cin rfl) rfl rfl) hl.1 rfl (Nat.le_of_ble_eq_true rfl) ⟨Nat.zero_le _, Nat.zero_le _⟩ dX0_write_56 (fun _ H locs hC => ?_)
        refine W.eq (g2 := F0 m 59 ls [.int (-1000001)]) rfl ?_
        have hs : s_write fd (swr G) (snr G) sh s0 i v = (((-1000001), sh, p_find fd 0) : Int32 × Row × Row) := by exact write_n hG hs hn hj
        exact fr_i hx hb hr hlocks hX hC 0 (congrArg (fun z => some (Value.int z)) (t3_1 hs)) ((congrArg (fun z => cct G (pg d kp as un to (upd sc 3 0) ((s_write fd (swr G) (snr G) sh s0 i v).2.2) tp z) sp) (t3_2 hs)).trans (congrArg (fun z => cct G (pg d kp as un to (upd sc 3 0) z tp sh) sp) (t3_3 hs))).symm dX0_write_59
  · refine lv_aload_n hx hb dX0_write_0 rfl (lv_at hl 0 rfl) ?_
    refine lv_iload_n hx hb dX0_write_1 rfl (lv_at hl 1 rfl) ?_
    refine fc_VT (As := [.int s0]) (rest := []) hx hb hml hown hts hX hC (m_X0_rowAt_t s0 hs) (lw_V q984 q986 qs30 q108 q987) hdV_X0_rowAt ⟨rfl, rfl⟩ ⟨Nat.le_of_ble_eq_true rfl, Nat.le_of_ble_eq_true rfl⟩ (fx_recv (g := 5) (i := 0) (ci := 1) (q := (RX0, TX0, 13)) hX hC (cin rfl) rfl rfl) hl.1 rfl (Nat.le_of_ble_eq_true rfl) ⟨Nat.zero_le _, Nat.zero_le _⟩ dX0_write_2 (fun _ H locs hC => ?_)
    refine fx_catch (own := "OwlEars") (name := "OwlEars$Refusal") hown (hts _ q141) hE (by decide) (by decide) (by decide) (fx_recv (g := 5) (i := 1) (ci := 2) (q := (RX1, TX1, 7)) hX hC (cin rfl) rfl rfl) ?_
    refine lv_astore (lv' := [(4, .ref (G.ad 5 1)), (0, .ref (G.ad 5 0)), (1, .int s0), (2, .int i), (3, .int v)]) hx hb dX0_write_48 hl (by decide) rfl (fun ls hl => ?_)
    refine lv_aload_n hx hb dX0_write_50 rfl (lv_at hl 1 rfl) ?_
    refine lv_aload hx hb dX0_write_51 (lv_at hl 0 rfl) ?_
    refine fg_getN (C := RX1) (T := TX1) (N := 7) (ci := 2) (g := 5) (i := 1) (v := .int 0) hx hb hown hts hX hC in_X1 rfl (cin rfl) rfl 6 (by decide) (hX.2.2.1.F q193) (fun _ h => h) rfl dX0_write_53 ?_
    refine fc_V (As := [.int 0]) (rest := []) hx hb hml hown hts hX hC (m_X0_finding 0 (vin_b rfl)) (lw_V q472 q474 qs2 q108 q475) hdV_X0_finding ⟨rfl, rfl⟩ ⟨Nat.le_of_ble_eq_true rfl, Nat.le_of_ble_eq_true rfl⟩ (fx_recv (g := 5) (i := 0) (ci := 1) (q := (RX0, TX0, 13)) hX hC (cin rfl) rfl rfl) hl.1 rfl (Nat.le_of_ble_eq_true rfl) ⟨Nat.zero_le _, Nat.zero_le _⟩ dX0_write_56 (fun _ H locs hC => ?_)
    refine W.eq (g2 := F0 m 59 ls [.int (-1000001)]) rfl ?_
    have hs : s_write fd (swr G) (snr G) sh s0 i v = (((-1000001), sh, p_find fd 0) : Int32 × Row × Row) := by exact write_t (lk_1 hs) (by decide) (fnd1 fd)
    exact fr_i hx hb hr hlocks hX hC 0 (congrArg (fun z => some (Value.int z)) (t3_1 hs)) ((congrArg (fun z => cct G (pg d kp as un to (upd sc 3 0) ((s_write fd (swr G) (snr G) sh s0 i v).2.2) tp z) sp) (t3_2 hs)).trans (congrArg (fun z => cct G (pg d kp as un to (upd sc 3 0) z tp sh) sp) (t3_3 hs))).symm dX0_write_59
set_option maxRecDepth 100000 in
theorem m_X0_load {l : Launch} {G : Gc} {d kp as un to sc fd tp sh : Row} {sp : Nat → Option Nat} (s0 : Int32) (hG : GW G) : Cm l yX0_load (wsW_ yX0_load cX0_load 3 (some .int) [(0, 25, 26, 54)]) ({ frames := 3, cells := 0, slots := 0, locals := 64 }) (cF G) [.ref (G.ad 5 0), .int s0] (cct G (pg d kp as un to sc fd tp sh) sp) (fun u : Int32 => some (.int ((s_load d fd (swr G) (snr G) sh s0).1))) (fun u => cct G (pg ((s_load d fd (swr G) (snr G) sh s0).2.1) kp as un to (upd sc 3 u) ((s_load d fd (swr G) (snr G) sh s0).2.2) tp sh) sp) := by
  refine Cm.startH (by decide) (Nat.le_of_ble_eq_true rfl) ?_
  intro p e s m below meth c hf hE hX hC ls hl
  obtain ⟨hx, hb, hr, hml, hown, hts, hlocks⟩ := hf
  have hl : lv_has ls 3 [(0, .ref (G.ad 5 0)), (1, .int s0)] := hl
  have hown : s.vm.findClass "OwlEars" = some m.cls := hown
  by_cases hs : p_in s0 0 3
  · by_cases hn : G.sw (ix s0) = 0
    · refine lv_aload_n hx hb dX0_load_0 rfl (lv_at hl 0 rfl) ?_
      refine lv_iload_n hx hb dX0_load_1 rfl (lv_at hl 1 rfl) ?_
      refine fc_V (As := [.int s0]) (rest := []) hx hb hml hown hts hX hC (m_X0_rowAt_0 s0 hs hn) (lw_V q984 q986 qs30 q108 q987) hdV_X0_rowAt ⟨rfl, rfl⟩ ⟨Nat.le_of_ble_eq_true rfl, Nat.le_of_ble_eq_true rfl⟩ (fx_recv (g := 5) (i := 0) (ci := 1) (q := (RX0, TX0, 13)) hX hC (cin rfl) rfl rfl) hl.1 rfl (Nat.le_of_ble_eq_true rfl) ⟨Nat.zero_le _, Nat.zero_le _⟩ dX0_load_2 (fun _ H locs hC => ?_)
      refine W.eq (g2 := F0 m 5 ls [.null]) rfl ?_
      refine lv_astore_nN (lv' := [(2, .null), (0, .ref (G.ad 5 0)), (1, .int s0)]) hx hb dX0_load_5 rfl hl (by decide) rfl (fun ls hl => ?_)
      refine lv_aload_n hx hb dX0_load_6 rfl (lv_at hl 1 rfl) ?_
      refine lv_aload_nN hx hb dX0_load_7 rfl (lv_at hl 0 rfl) ?_
      refine lv_ifnullN (tgt := 15) hx hb dX0_load_8 (by decide) ?_
      refine lv_iconst (v := 0) hx hb dX0_load_15 rfl ?_
      refine lv_iconst (v := 5) hx hb dX0_load_16 rfl ?_
      refine fc_VT (As := [.int 0, .int 5]) (rest := []) hx hb hml hown hts hX hC (m_X0_need_0 5) (lw_V q991 q993 qs31 q108 q994) hdV_X0_need ⟨rfl, rfl⟩ ⟨Nat.le_of_ble_eq_true rfl, Nat.le_of_ble_eq_true rfl⟩ (fx_recv (g := 5) (i := 0) (ci := 1) (q := (RX0, TX0, 13)) hX hC (cin rfl) rfl rfl) hl.1 rfl (Nat.le_of_ble_eq_true rfl) ⟨Nat.zero_le _, Nat.zero_le _⟩ dX0_load_17 (fun _ H locs hC => ?_)
      refine fx_catch (own := "OwlEars") (name := "OwlEars$Refusal") hown (hts _ q141) hE (by decide) (by decide) (by decide) (fx_recv (g := 5) (i := 1) (ci := 2) (q := (RX1, TX1, 7)) hX hC (cin rfl) rfl rfl) ?_
      refine lv_astore_n (lv' := [(2, .ref (G.ad 5 1)), (0, .ref (G.ad 5 0)), (1, .int s0)]) hx hb dX0_load_26 rfl hl (by decide) rfl (fun ls hl => ?_)
      refine lv_aload_n hx hb dX0_load_27 rfl (lv_at hl 1 rfl) ?_
      refine lv_aload_n hx hb dX0_load_28 rfl (lv_at hl 0 rfl) ?_
      refine fg_getN (C := RX1) (T := TX1) (N := 7) (ci := 2) (g := 5) (i := 1) (v := .int 5) hx hb hown hts hX hC in_X1 rfl (cin rfl) rfl 6 (by decide) (hX.2.2.1.F q193) (fun _ h => h) rfl dX0_load_29 ?_
      refine fc_V (As := [.int 5]) (rest := []) hx hb hml hown hts hX hC (m_X0_finding 5 (vin_b rfl)) (lw_V q472 q474 qs2 q108 q475) hdV_X0_finding ⟨rfl, rfl⟩ ⟨Nat.le_of_ble_eq_true rfl, Nat.le_of_ble_eq_true rfl⟩ (fx_recv (g := 5) (i := 0) (ci := 1) (q := (RX0, TX0, 13)) hX hC (cin rfl) rfl rfl) hl.1 rfl (Nat.le_of_ble_eq_true rfl) ⟨Nat.zero_le _, Nat.zero_le _⟩ dX0_load_32 (fun _ H locs hC => ?_)
      refine W.eq (g2 := F0 m 35 ls [.int (-1000006)]) rfl ?_
      have hs : s_load d fd (swr G) (snr G) sh s0 = (((-1000006), d, p_find fd 5) : Int32 × Row × Row) := by exact load_t (lk_2 hs hn) (by decide) (fnd6 fd)
      exact fr_i hx hb hr hlocks hX hC 5 (congrArg (fun z => some (Value.int z)) (t3_1 hs)) ((congrArg (fun z => cct G (pg z kp as un to (upd sc 3 5) ((s_load d fd (swr G) (snr G) sh s0).2.2) tp sh) sp) (t3_2 hs)).trans (congrArg (fun z => cct G (pg d kp as un to (upd sc 3 5) z tp sh) sp) (t3_3 hs))).symm dX0_load_35
    · refine lv_aload_n hx hb dX0_load_0 rfl (lv_at hl 0 rfl) ?_
      refine lv_iload_n hx hb dX0_load_1 rfl (lv_at hl 1 rfl) ?_
      refine fc_V (As := [.int s0]) (rest := []) hx hb hml hown hts hX hC (m_X0_rowAt_n s0 hs hn) (lw_V q984 q986 qs30 q108 q987) hdV_X0_rowAt ⟨rfl, rfl⟩ ⟨Nat.le_of_ble_eq_true rfl, Nat.le_of_ble_eq_true rfl⟩ (fx_recv (g := 5) (i := 0) (ci := 1) (q := (RX0, TX0, 13)) hX hC (cin rfl) rfl rfl) hl.1 rfl (Nat.le_of_ble_eq_true rfl) ⟨Nat.zero_le _, Nat.zero_le _⟩ dX0_load_2 (fun _ H locs hC => ?_)
      refine W.eq (g2 := F0 m 5 ls [.ref (G.ad 10 (ix s0))]) rfl ?_
      refine lv_astore_n (lv' := [(2, .ref (G.ad 10 (ix s0))), (0, .ref (G.ad 5 0)), (1, .int s0)]) hx hb dX0_load_5 rfl hl (by decide) rfl (fun ls hl => ?_)
      refine lv_aload_n hx hb dX0_load_6 rfl (lv_at hl 1 rfl) ?_
      refine lv_aload_n hx hb dX0_load_7 rfl (lv_at hl 0 rfl) ?_
      refine lv_ifnull hx hb dX0_load_8 ?_
      refine lv_iconst (v := 1) hx hb dX0_load_11 rfl ?_
      refine lv_goto (tgt := 16) hx hb dX0_load_12 (by decide) ?_
      refine lv_iconst (v := 5) hx hb dX0_load_16 rfl ?_
      refine fc_V (As := [.int 1, .int 5]) (rest := []) hx hb hml hown hts hX hC (m_X0_need_1 5) (lw_V q991 q993 qs31 q108 q994) hdV_X0_need ⟨rfl, rfl⟩ ⟨Nat.le_of_ble_eq_true rfl, Nat.le_of_ble_eq_true rfl⟩ (fx_recv (g := 5) (i := 0) (ci := 1) (q := (RX0, TX0, 13)) hX hC (cin rfl) rfl rfl) hl.1 rfl (Nat.le_of_ble_eq_true rfl) ⟨Nat.zero_le _, Nat.zero_le _⟩ dX0_load_17 (fun _ H locs hC => ?_)
      refine W.eq (g2 := F0 m 20 ls []) rfl ?_
      refine lv_aload_n hx hb dX0_load_20 rfl (lv_at hl 1 rfl) ?_
      refine lv_aload_n hx hb dX0_load_21 rfl (lv_at hl 0 rfl) ?_
      refine fc_V (As := [.ref (G.ad 10 (ix s0))]) (rest := []) hx hb hml hown hts hX hC (m_X0_loads (ix s0) (vin_lt (vin_of hs 4 (by decide))) hG hn) (lw_V q1246 q1248 qs52 q108 q1249) hdV_X0_loads ⟨rfl, rfl⟩ ⟨Nat.le_of_ble_eq_true rfl, Nat.le_of_ble_eq_true rfl⟩ (fx_recv (g := 5) (i := 0) (ci := 1) (q := (RX0, TX0, 13)) hX hC (cin rfl) rfl rfl) hl.1 rfl (Nat.le_of_ble_eq_true rfl) ⟨Nat.zero_le _, Nat.zero_le _⟩ dX0_load_22 (fun _ H locs hC => ?_)
      refine W.eq (g2 := F0 m 25 ls [.int (nI (p_lds sh (40 * (ix s0)) (G.sn (ix s0)) 40 0))]) rfl ?_
      have hs : s_load d fd (swr G) (snr G) sh s0 = ((nI (p_lds sh (40 * (ix s0)) (G.sn (ix s0)) 40 0), p_lay d sh (40 * (ix s0)) (p_lds sh (40 * (ix s0)) (G.sn (ix s0)) 40 0), fd) : Int32 × Row × Row) := by exact load_ok hG hs hn
      exact fr_i hx hb hr hlocks hX hC (sc 3) (congrArg (fun z => some (Value.int z)) (t3_1 hs)) (((congrArg (fun z => cct G (pg z kp as un to (upd sc 3 (sc 3)) ((s_load d fd (swr G) (snr G) sh s0).2.2) tp sh) sp) (t3_2 hs)).trans (congrArg (fun z => cct G (pg (p_lay d sh (40 * (ix s0)) (p_lds sh (40 * (ix s0)) (G.sn (ix s0)) 40 0)) kp as un to (upd sc 3 (sc 3)) z tp sh) sp) (t3_3 hs))).trans (congrArg (fun z => cct G (pg (p_lay d sh (40 * (ix s0)) (p_lds sh (40 * (ix s0)) (G.sn (ix s0)) 40 0)) kp as un to z fd tp sh) sp) ((upd_id sc 3).symm))).symm dX0_load_25
  · refine lv_aload_n hx hb dX0_load_0 rfl (lv_at hl 0 rfl) ?_
    refine lv_iload_n hx hb dX0_load_1 rfl (lv_at hl 1 rfl) ?_
    refine fc_VT (As := [.int s0]) (rest := []) hx hb hml hown hts hX hC (m_X0_rowAt_t s0 hs) (lw_V q984 q986 qs30 q108 q987) hdV_X0_rowAt ⟨rfl, rfl⟩ ⟨Nat.le_of_ble_eq_true rfl, Nat.le_of_ble_eq_true rfl⟩ (fx_recv (g := 5) (i := 0) (ci := 1) (q := (RX0, TX0, 13)) hX hC (cin rfl) rfl rfl) hl.1 rfl (Nat.le_of_ble_eq_true rfl) ⟨Nat.zero_le _, Nat.zero_le _⟩ dX0_load_2 (fun _ H locs hC => ?_)
    refine fx_catch (own := "OwlEars") (name := "OwlEars$Refusal") hown (hts _ q141) hE (by decide) (by decide) (by decide) (fx_recv (g := 5) (i := 1) (ci := 2) (q := (RX1, TX1, 7)) hX hC (cin rfl) rfl rfl) ?_
    refine lv_astore_n (lv' := [(2, .ref (G.ad 5 1)), (0, .ref (G.ad 5 0)), (1, .int s0)]) hx hb dX0_load_26 rfl hl (by decide) rfl (fun ls hl => ?_)
    refine lv_aload_n hx hb dX0_load_27 rfl (lv_at hl 1 rfl) ?_
    refine lv_aload_n hx hb dX0_load_28 rfl (lv_at hl 0 rfl) ?_
    refine fg_getN (C := RX1) (T := TX1) (N := 7) (ci := 2) (g := 5) (i := 1) (v := .int 0) hx hb hown hts hX hC in_X1 rfl (cin rfl) rfl 6 (by decide) (hX.2.2.1.F q193) (fun _ h => h) rfl dX0_load_29 ?_
    refine fc_V (As := [.int 0]) (rest := []) hx hb hml hown hts hX hC (m_X0_finding 0 (vin_b rfl)) (lw_V q472 q474 qs2 q108 q475) hdV_X0_finding ⟨rfl, rfl⟩ ⟨Nat.le_of_ble_eq_true rfl, Nat.le_of_ble_eq_true rfl⟩ (fx_recv (g := 5) (i := 0) (ci := 1) (q := (RX0, TX0, 13)) hX hC (cin rfl) rfl rfl) hl.1 rfl (Nat.le_of_ble_eq_true rfl) ⟨Nat.zero_le _, Nat.zero_le _⟩ dX0_load_32 (fun _ H locs hC => ?_)
    refine W.eq (g2 := F0 m 35 ls [.int (-1000001)]) rfl ?_
    have hs : s_load d fd (swr G) (snr G) sh s0 = (((-1000001), d, p_find fd 0) : Int32 × Row × Row) := by exact load_t (lk_1 hs) (by decide) (fnd1 fd)
    exact fr_i hx hb hr hlocks hX hC 0 (congrArg (fun z => some (Value.int z)) (t3_1 hs)) ((congrArg (fun z => cct G (pg z kp as un to (upd sc 3 0) ((s_load d fd (swr G) (snr G) sh s0).2.2) tp sh) sp) (t3_2 hs)).trans (congrArg (fun z => cct G (pg d kp as un to (upd sc 3 0) z tp sh) sp) (t3_3 hs))).symm dX0_load_35
set_option maxRecDepth 100000 in
theorem m_X0_judge {l : Launch} {G : Gc} {d kp as un to sc fd tp sh : Row} {sp : Nat → Option Nat} (hw : WF d) (s0 : Int32) (hG : GW G) : Cm l yX0_judge (wsW_ yX0_judge cX0_judge 4 (some .int) [(0, 41, 42, 54)]) ({ frames := 4, cells := 0, slots := 0, locals := 127 }) (cF G) [.ref (G.ad 5 0), .int s0] (cct G (pg d kp as un to sc fd tp sh) sp) (fun u : Row × Int32 => some (.int ((s_judge d fd (swr G) (snr G) sh s0).1))) (fun u => cct G (pg d kp u.1 un to (upd sc 3 u.2) ((s_judge d fd (swr G) (snr G) sh s0).2) tp sh) sp) := by
  refine Cm.startH (by decide) (Nat.le_of_ble_eq_true rfl) ?_
  intro p e s m below meth c hf hE hX hC ls hl
  obtain ⟨hx, hb, hr, hml, hown, hts, hlocks⟩ := hf
  have hl : lv_has ls 4 [(0, .ref (G.ad 5 0)), (1, .int s0)] := hl
  have hown : s.vm.findClass "OwlEars" = some m.cls := hown
  by_cases hs : p_in s0 0 3
  · by_cases hn : G.sw (ix s0) = 0
    · refine lv_aload_n hx hb dX0_judge_0 rfl (lv_at hl 0 rfl) ?_
      refine lv_iload_n hx hb dX0_judge_1 rfl (lv_at hl 1 rfl) ?_
      refine fc_V (As := [.int s0]) (rest := []) hx hb hml hown hts hX hC (m_X0_rowAt_0 s0 hs hn) (lw_V q984 q986 qs30 q108 q987) hdV_X0_rowAt ⟨rfl, rfl⟩ ⟨Nat.le_of_ble_eq_true rfl, Nat.le_of_ble_eq_true rfl⟩ (fx_recv (g := 5) (i := 0) (ci := 1) (q := (RX0, TX0, 13)) hX hC (cin rfl) rfl rfl) hl.1 rfl (Nat.le_of_ble_eq_true rfl) ⟨Nat.zero_le _, Nat.zero_le _⟩ dX0_judge_2 (fun _ H locs hC => ?_)
      refine W.eq (g2 := F0 m 5 ls [.null]) rfl ?_
      refine lv_astore_nN (lv' := [(2, .null), (0, .ref (G.ad 5 0)), (1, .int s0)]) hx hb dX0_judge_5 rfl hl (by decide) rfl (fun ls hl => ?_)
      refine lv_aload_n hx hb dX0_judge_6 rfl (lv_at hl 1 rfl) ?_
      refine lv_aload_nN hx hb dX0_judge_7 rfl (lv_at hl 0 rfl) ?_
      refine lv_ifnullN (tgt := 15) hx hb dX0_judge_8 (by decide) ?_
      refine lv_iconst (v := 0) hx hb dX0_judge_15 rfl ?_
      refine lv_iconst (v := 5) hx hb dX0_judge_16 rfl ?_
      refine fc_VT (As := [.int 0, .int 5]) (rest := []) hx hb hml hown hts hX hC (m_X0_need_0 5) (lw_V q991 q993 qs31 q108 q994) hdV_X0_need ⟨rfl, rfl⟩ ⟨Nat.le_of_ble_eq_true rfl, Nat.le_of_ble_eq_true rfl⟩ (fx_recv (g := 5) (i := 0) (ci := 1) (q := (RX0, TX0, 13)) hX hC (cin rfl) rfl rfl) hl.1 rfl (Nat.le_of_ble_eq_true rfl) ⟨Nat.zero_le _, Nat.zero_le _⟩ dX0_judge_17 (fun _ H locs hC => ?_)
      refine fx_catch (own := "OwlEars") (name := "OwlEars$Refusal") hown (hts _ q141) hE (by decide) (by decide) (by decide) (fx_recv (g := 5) (i := 1) (ci := 2) (q := (RX1, TX1, 7)) hX hC (cin rfl) rfl rfl) ?_
      refine lv_astore_n (lv' := [(2, .ref (G.ad 5 1)), (0, .ref (G.ad 5 0)), (1, .int s0)]) hx hb dX0_judge_42 rfl hl (by decide) rfl (fun ls hl => ?_)
      refine lv_aload_n hx hb dX0_judge_43 rfl (lv_at hl 1 rfl) ?_
      refine lv_aload_n hx hb dX0_judge_44 rfl (lv_at hl 0 rfl) ?_
      refine fg_getN (C := RX1) (T := TX1) (N := 7) (ci := 2) (g := 5) (i := 1) (v := .int 5) hx hb hown hts hX hC in_X1 rfl (cin rfl) rfl 6 (by decide) (hX.2.2.1.F q193) (fun _ h => h) rfl dX0_judge_45 ?_
      refine fc_V (As := [.int 5]) (rest := []) hx hb hml hown hts hX hC (m_X0_finding 5 (vin_b rfl)) (lw_V q472 q474 qs2 q108 q475) hdV_X0_finding ⟨rfl, rfl⟩ ⟨Nat.le_of_ble_eq_true rfl, Nat.le_of_ble_eq_true rfl⟩ (fx_recv (g := 5) (i := 0) (ci := 1) (q := (RX0, TX0, 13)) hX hC (cin rfl) rfl rfl) hl.1 rfl (Nat.le_of_ble_eq_true rfl) ⟨Nat.zero_le _, Nat.zero_le _⟩ dX0_judge_48 (fun _ H locs hC => ?_)
      refine W.eq (g2 := F0 m 51 ls [.int (-1000006)]) rfl ?_
      have hs : s_judge d fd (swr G) (snr G) sh s0 = (((-1000006), p_find fd 5) : Int32 × Row) := by exact judge_t (lk_2 hs hn) (by decide) (fnd6 fd)
      exact fr_i hx hb hr hlocks hX hC ⟨as, 5⟩ (congrArg (fun z => some (Value.int z)) (t2_1 hs)) (congrArg (fun z => cct G (pg d kp as un to (upd sc 3 5) z tp sh) sp) (t2_2 hs)).symm dX0_judge_51
    · refine lv_aload_n hx hb dX0_judge_0 rfl (lv_at hl 0 rfl) ?_
      refine lv_iload_n hx hb dX0_judge_1 rfl (lv_at hl 1 rfl) ?_
      refine fc_V (As := [.int s0]) (rest := []) hx hb hml hown hts hX hC (m_X0_rowAt_n s0 hs hn) (lw_V q984 q986 qs30 q108 q987) hdV_X0_rowAt ⟨rfl, rfl⟩ ⟨Nat.le_of_ble_eq_true rfl, Nat.le_of_ble_eq_true rfl⟩ (fx_recv (g := 5) (i := 0) (ci := 1) (q := (RX0, TX0, 13)) hX hC (cin rfl) rfl rfl) hl.1 rfl (Nat.le_of_ble_eq_true rfl) ⟨Nat.zero_le _, Nat.zero_le _⟩ dX0_judge_2 (fun _ H locs hC => ?_)
      refine W.eq (g2 := F0 m 5 ls [.ref (G.ad 10 (ix s0))]) rfl ?_
      refine lv_astore_n (lv' := [(2, .ref (G.ad 10 (ix s0))), (0, .ref (G.ad 5 0)), (1, .int s0)]) hx hb dX0_judge_5 rfl hl (by decide) rfl (fun ls hl => ?_)
      refine lv_aload_n hx hb dX0_judge_6 rfl (lv_at hl 1 rfl) ?_
      refine lv_aload_n hx hb dX0_judge_7 rfl (lv_at hl 0 rfl) ?_
      refine lv_ifnull hx hb dX0_judge_8 ?_
      refine lv_iconst (v := 1) hx hb dX0_judge_11 rfl ?_
      refine lv_goto (tgt := 16) hx hb dX0_judge_12 (by decide) ?_
      refine lv_iconst (v := 5) hx hb dX0_judge_16 rfl ?_
      refine fc_V (As := [.int 1, .int 5]) (rest := []) hx hb hml hown hts hX hC (m_X0_need_1 5) (lw_V q991 q993 qs31 q108 q994) hdV_X0_need ⟨rfl, rfl⟩ ⟨Nat.le_of_ble_eq_true rfl, Nat.le_of_ble_eq_true rfl⟩ (fx_recv (g := 5) (i := 0) (ci := 1) (q := (RX0, TX0, 13)) hX hC (cin rfl) rfl rfl) hl.1 rfl (Nat.le_of_ble_eq_true rfl) ⟨Nat.zero_le _, Nat.zero_le _⟩ dX0_judge_17 (fun _ H locs hC => ?_)
      refine W.eq (g2 := F0 m 20 ls []) rfl ?_
      refine lv_aload_n hx hb dX0_judge_20 rfl (lv_at hl 1 rfl) ?_
      refine lv_aload_n hx hb dX0_judge_21 rfl (lv_at hl 0 rfl) ?_
      refine fc_VW (As := [.ref (G.ad 10 (ix s0))]) (rest := []) hx hb hml hown hts hX hC (m_X0_rightOnes hw (ix s0) (vin_lt (vin_of hs 4 (by decide))) hG hn) (lw_VW q1254 q1256 qs53 q108 q1257) hdV_X0_rightOnes ⟨rfl, rfl⟩ ⟨Nat.le_of_ble_eq_true rfl, Nat.le_of_ble_eq_true rfl⟩ (fx_recv (g := 5) (i := 0) (ci := 1) (q := (RX0, TX0, 13)) hX hC (cin rfl) rfl rfl) hl.1 rfl (Nat.le_of_ble_eq_true rfl) ⟨Nat.zero_le _, Nat.zero_le _⟩ dX0_judge_22 (fun _ H locs hC => ?_)
      refine W.eq (g2 := F0 m 25 ls [.int (nI (p_rgt d sh (40 * (ix s0)) (G.sn (ix s0)) 40 0))]) rfl ?_
      refine lv_istore_n (lv' := [(3, .int (nI (p_rgt d sh (40 * (ix s0)) (G.sn (ix s0)) 40 0))), (2, .ref (G.ad 10 (ix s0))), (0, .ref (G.ad 5 0)), (1, .int s0)]) hx hb dX0_judge_25 rfl hl (by decide) rfl (fun ls hl => ?_)
      refine lv_iload_n hx hb dX0_judge_26 rfl (lv_at hl 0 rfl) ?_
      refine lv_aload_n hx hb dX0_judge_27 rfl (lv_at hl 1 rfl) ?_
      refine fc_S (As := [.ref (G.ad 10 (ix s0))]) (rest := [.int (nI (p_rgt d sh (40 * (ix s0)) (G.sn (ix s0)) 40 0))]) hx hb hml hown hts hX hC (m_X0_length (ix s0) (vin_lt (vin_of hs 4 (by decide))) hG hn) (lw_S q1003 q1004 q108 q1005) hdS_X0_length ⟨rfl, rfl⟩ ⟨Nat.le_of_ble_eq_true rfl, Nat.le_of_ble_eq_true rfl⟩ hl.1 rfl (Nat.le_of_ble_eq_true rfl) ⟨Nat.zero_le _, Nat.zero_le _⟩ dX0_judge_28 (fun _ H locs hC => ?_)
      refine W.eq (g2 := F0 m 31 ls [.int (nI ((G.sn (ix s0)))), .int (nI (p_rgt d sh (40 * (ix s0)) (G.sn (ix s0)) 40 0))]) rfl ?_
      refine lv_icmp_ne (tgt := 38) hx hb dX0_judge_31 (by decide) (fun c_8 => ?_) (fun c_8 => ?_)
      · refine lv_iconst (v := 1) hx hb dX0_judge_38 rfl ?_
        refine lv_iload_n hx hb dX0_judge_39 rfl (lv_at hl 0 rfl) ?_
        refine lv_iadd hx hb dX0_judge_40 ?_
        have hs : s_judge d fd (swr G) (snr G) sh s0 = ((1 + (nI (p_rgt d sh (40 * (ix s0)) (G.sn (ix s0)) 40 0)), fd) : Int32 × Row) := by have h40 := (hG _ (vin_lt (vin_of hs 4 (by decide)))).2; have hle := rgt_le (w := d) (nu := sh) (b := 40 * ix s0) (n := G.sn (ix s0)) 40 0; rw [judge_ok hG hs hn]; rw [if_neg (fun z => c_8 (congrArg nI z))]
        exact fr_i hx hb hr hlocks hX hC ⟨d, sc 3⟩ (congrArg (fun z => some (Value.int z)) (t2_1 hs)) ((congrArg (fun z => cct G (pg d kp d un to (upd sc 3 (sc 3)) z tp sh) sp) (t2_2 hs)).trans (congrArg (fun z => cct G (pg d kp d un to z fd tp sh) sp) ((upd_id sc 3).symm))).symm dX0_judge_41
      · refine lv_iconst (v := 0) hx hb dX0_judge_34 rfl ?_
        refine lv_goto (tgt := 41) hx hb dX0_judge_35 (by decide) ?_
        have hs : s_judge d fd (swr G) (snr G) sh s0 = ((0, fd) : Int32 × Row) := by have h40 := (hG _ (vin_lt (vin_of hs 4 (by decide)))).2; have hle := rgt_le (w := d) (nu := sh) (b := 40 * ix s0) (n := G.sn (ix s0)) 40 0; rw [judge_ok hG hs hn]; rw [if_pos ((nI_eq (by omega) (by omega)).mp c_8)]
        exact fr_i hx hb hr hlocks hX hC ⟨d, sc 3⟩ (congrArg (fun z => some (Value.int z)) (t2_1 hs)) ((congrArg (fun z => cct G (pg d kp d un to (upd sc 3 (sc 3)) z tp sh) sp) (t2_2 hs)).trans (congrArg (fun z => cct G (pg d kp d un to z fd tp sh) sp) ((upd_id sc 3).symm))).symm dX0_judge_41
  · refine lv_aload_n hx hb dX0_judge_0 rfl (lv_at hl 0 rfl) ?_
    refine lv_iload_n hx hb dX0_judge_1 rfl (lv_at hl 1 rfl) ?_
    refine fc_VT (As := [.int s0]) (rest := []) hx hb hml hown hts hX hC (m_X0_rowAt_t s0 hs) (lw_V q984 q986 qs30 q108 q987) hdV_X0_rowAt ⟨rfl, rfl⟩ ⟨Nat.le_of_ble_eq_true rfl, Nat.le_of_ble_eq_true rfl⟩ (fx_recv (g := 5) (i := 0) (ci := 1) (q := (RX0, TX0, 13)) hX hC (cin rfl) rfl rfl) hl.1 rfl (Nat.le_of_ble_eq_true rfl) ⟨Nat.zero_le _, Nat.zero_le _⟩ dX0_judge_2 (fun _ H locs hC => ?_)
    refine fx_catch (own := "OwlEars") (name := "OwlEars$Refusal") hown (hts _ q141) hE (by decide) (by decide) (by decide) (fx_recv (g := 5) (i := 1) (ci := 2) (q := (RX1, TX1, 7)) hX hC (cin rfl) rfl rfl) ?_
    refine lv_astore_n (lv' := [(2, .ref (G.ad 5 1)), (0, .ref (G.ad 5 0)), (1, .int s0)]) hx hb dX0_judge_42 rfl hl (by decide) rfl (fun ls hl => ?_)
    refine lv_aload_n hx hb dX0_judge_43 rfl (lv_at hl 1 rfl) ?_
    refine lv_aload_n hx hb dX0_judge_44 rfl (lv_at hl 0 rfl) ?_
    refine fg_getN (C := RX1) (T := TX1) (N := 7) (ci := 2) (g := 5) (i := 1) (v := .int 0) hx hb hown hts hX hC in_X1 rfl (cin rfl) rfl 6 (by decide) (hX.2.2.1.F q193) (fun _ h => h) rfl dX0_judge_45 ?_
    refine fc_V (As := [.int 0]) (rest := []) hx hb hml hown hts hX hC (m_X0_finding 0 (vin_b rfl)) (lw_V q472 q474 qs2 q108 q475) hdV_X0_finding ⟨rfl, rfl⟩ ⟨Nat.le_of_ble_eq_true rfl, Nat.le_of_ble_eq_true rfl⟩ (fx_recv (g := 5) (i := 0) (ci := 1) (q := (RX0, TX0, 13)) hX hC (cin rfl) rfl rfl) hl.1 rfl (Nat.le_of_ble_eq_true rfl) ⟨Nat.zero_le _, Nat.zero_le _⟩ dX0_judge_48 (fun _ H locs hC => ?_)
    refine W.eq (g2 := F0 m 51 ls [.int (-1000001)]) rfl ?_
    have hs : s_judge d fd (swr G) (snr G) sh s0 = (((-1000001), p_find fd 0) : Int32 × Row) := by exact judge_t (lk_1 hs) (by decide) (fnd1 fd)
    exact fr_i hx hb hr hlocks hX hC ⟨as, 0⟩ (congrArg (fun z => some (Value.int z)) (t2_1 hs)) (congrArg (fun z => cct G (pg d kp as un to (upd sc 3 0) z tp sh) sp) (t2_2 hs)).symm dX0_judge_51
