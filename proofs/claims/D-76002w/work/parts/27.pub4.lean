theorem hdV_X0_bestOwl : yX0_bestOwl.cls = RX0 ∧ yX0_bestOwl.cls ≠ "java/lang/invoke/MethodHandle" ∧ yX0_bestOwl.cls ≠ "java/lang/invoke/VarHandle" ∧ (parseMethodDescriptor yX0_bestOwl.desc).map (fun d => d.parameters.length) = some 3 := by decide +kernel
set_option maxRecDepth 100000 in
theorem m_X0_bestOwl_0 {l : Launch} {G : Gc} {d kp as un to sc fd tp sh : Row} {sp : Nat → Option Nat} (hw : WF d) (n : Int32) : Cm l yX0_bestOwl (ws_ yX0_bestOwl cX0_bestOwl 9 (some .int)) ({ frames := 5, cells := 0, slots := 0, locals := 127 }) (cF G) [.ref (G.ad 5 0), .int 0, .int 36, .int n] (cct G (pg d kp as un to sc fd tp sh) sp) (fun u : Row => some (.int (p_owl d 8 36 n))) (fun u => cct G (pg d kp u un to sc fd tp sh) sp) := by
  refine Cm.start (by decide) (Nat.le_of_ble_eq_true rfl) ?_
  intro p e s m below meth c hf hX hC ls hl
  obtain ⟨hx, hb, hr, hml, hown, hts, hlocks⟩ := hf
  have hl : lv_has ls 9 [(0, .ref (G.ad 5 0)), (1, .int 0), (2, .int 36), (3, .int n)] := hl
  have hown : s.vm.findClass "OwlEars" = some m.cls := hown
  refine lv_aload_n hx hb dX0_bestOwl_0 rfl (lv_at hl 0 rfl) ?_
  refine fg_get (C := RX0) (T := TX0) (N := 13) (ci := 1) (g := 5) (i := 0) (v := .ref (G.ad 0 0)) hx hb hown hts hX hC in_X0 rfl (cin rfl) rfl 3 (by decide) q425 (fun _ h => h) rfl dX0_bestOwl_1 ?_
  refine fg_getN (C := RX4) (T := TX4) (N := 9) (ci := 0) (g := 0) (i := 0) (v := .ref (G.ad 0 4)) hx hb hown hts hX hC in_X4 rfl (cin rfl) rfl 3 (by decide) (hX.2.2.1.F q250) (fun _ h => h) rfl dX0_bestOwl_4 ?_
  refine lv_iload_n hx hb dX0_bestOwl_7 rfl (lv_at hl 1 rfl) ?_
  refine fg_iald (g := 0) (i := 4) (t0 := 0) (v := d 8) hx hb hX hC (cin rfl) rfl rfl (vin_b rfl) rfl dX0_bestOwl_8 ?_
  refine lv_istore (lv' := [(4, .int (d 8)), (0, .ref (G.ad 5 0)), (1, .int 0), (2, .int 36), (3, .int n)]) hx hb dX0_bestOwl_9 hl (by decide) rfl (fun ls hl => ?_)
  refine lv_iconst (v := 0) hx hb dX0_bestOwl_11 rfl ?_
  refine lv_istore (lv' := [(5, .int 0), (4, .int (d 8)), (0, .ref (G.ad 5 0)), (1, .int 0), (2, .int 36), (3, .int n)]) hx hb dX0_bestOwl_12 hl (by decide) rfl (fun ls hl => ?_)
  refine lv_iconst (v := (-1)) hx hb dX0_bestOwl_14 rfl ?_
  refine lv_istore (lv' := [(6, .int (-1)), (5, .int 0), (4, .int (d 8)), (0, .ref (G.ad 5 0)), (1, .int 0), (2, .int 36), (3, .int n)]) hx hb dX0_bestOwl_15 hl (by decide) rfl (fun ls hl => ?_)
  refine lv_iconst (v := 0) hx hb dX0_bestOwl_17 rfl ?_
  refine lv_istore (lv' := [(7, .int 0), (6, .int (-1)), (5, .int 0), (4, .int (d 8)), (0, .ref (G.ad 5 0)), (1, .int 0), (2, .int 36), (3, .int n)]) hx hb dX0_bestOwl_18 hl (by decide) rfl (fun ls hl => ?_)
  have L_1 : ∀ (k1 i1 : Nat), i1 + k1 = 36 → ∀ (as1 : Row) (x1 : Int32) (H : Heap) (locs : List Loc), fC (cF G) (cct G (pg (upd d 8 x1) kp as1 un to sc fd tp sh) sp) s.heap H locs → ∀ ls : Array Slot, lv_has ls 9 [(0, .ref (G.ad 5 0)), (1, .int 0), (2, .int 36), (3, .int n), (4, .int (d 8)), (5, .int ((p_bst (fun v => p_heard (upd d 8 (nI v)) (ix n)) 0 i1).1)), (6, .int ((p_bst (fun v => p_heard (upd d 8 (nI v)) (ix n)) 0 i1).2)), (7, .int (nI i1))] → WG p l e ({ frames := 5, cells := 0, slots := 0, locals := 127 }) s m (([.ref (G.ad 5 0), .int 0, .int 36, .int n] : List Value).toArray) below meth c H locs (cF G) (fun u : Row => some (.int (p_owl d 8 36 n))) (fun u => cct G (pg d kp u un to sc fd tp sh) sp) (F0 m 20 ls []) := by
    intro k1
    induction k1 with
    | zero =>
      intro i1 hi1 as1 x1 H locs hC ls hl
      obtain rfl : i1 = 36 := by omega
      refine lv_iload hx hb dX0_bestOwl_20 (lv_at hl 7 rfl) ?_
      refine lv_iload_n hx hb dX0_bestOwl_22 rfl (lv_at hl 2 rfl) ?_
      refine fj_ge (tgt := 75) hx hb dX0_bestOwl_23 (by decide) (fun _ => ?_) (fun z_2 => absurd z_2 (nlt_ix (n := 36)))
      refine lv_aload_n hx hb dX0_bestOwl_75 rfl (lv_at hl 0 rfl) ?_
      refine fg_get (C := RX0) (T := TX0) (N := 13) (ci := 1) (g := 5) (i := 0) (v := .ref (G.ad 0 0)) hx hb hown hts hX hC in_X0 rfl (cin rfl) rfl 3 (by decide) q425 (fun _ h => h) rfl dX0_bestOwl_76 ?_
      refine fg_getN (C := RX4) (T := TX4) (N := 9) (ci := 0) (g := 0) (i := 0) (v := .ref (G.ad 0 4)) hx hb hown hts hX hC in_X4 rfl (cin rfl) rfl 3 (by decide) (hX.2.2.1.F q250) (fun _ h => h) rfl dX0_bestOwl_79 ?_
      refine lv_iload_n hx hb dX0_bestOwl_82 rfl (lv_at hl 1 rfl) ?_
      refine lv_iload hx hb dX0_bestOwl_83 (lv_at hl 4 rfl) ?_
      refine fg_iast (g := 0) (i := 4) (t0 := 0) hx hb hX hC (cin rfl) rfl rfl (vin_b rfl) (cct G (pg (upd (upd d 8 x1) 8 (d 8)) kp as1 un to sc fd tp sh) sp) (cs_owl (k := 0) (by decide)) dX0_bestOwl_85 (fun H locs hC => ?_)
      refine lv_iload hx hb dX0_bestOwl_86 (lv_at hl 5 rfl) ?_
      exact fr_i hx hb hr hlocks hX hC as1 (congrArg (fun z => some (Value.int z)) (rfl)) (congrArg (fun z => cct G (pg z kp as1 un to sc fd tp sh) sp) (upd_back d 8 _)) dX0_bestOwl_88
    | succ k1 ih1 =>
      intro i1 hi1 as1 x1 H locs hC ls hl
      refine lv_iload hx hb dX0_bestOwl_20 (lv_at hl 7 rfl) ?_
      refine lv_iload_n hx hb dX0_bestOwl_22 rfl (lv_at hl 2 rfl) ?_
      refine fj_ge (tgt := 75) hx hb dX0_bestOwl_23 (by decide) (fun z_3 => absurd (lt_ix (n := 36) (show i1 < 36 by omega)) z_3) (fun _ => ?_)
      refine lv_aload_n hx hb dX0_bestOwl_26 rfl (lv_at hl 0 rfl) ?_
      refine fg_get (C := RX0) (T := TX0) (N := 13) (ci := 1) (g := 5) (i := 0) (v := .ref (G.ad 0 0)) hx hb hown hts hX hC in_X0 rfl (cin rfl) rfl 3 (by decide) q425 (fun _ h => h) rfl dX0_bestOwl_27 ?_
      refine fg_getN (C := RX4) (T := TX4) (N := 9) (ci := 0) (g := 0) (i := 0) (v := .ref (G.ad 0 4)) hx hb hown hts hX hC in_X4 rfl (cin rfl) rfl 3 (by decide) (hX.2.2.1.F q250) (fun _ h => h) rfl dX0_bestOwl_30 ?_
      refine lv_iload_n hx hb dX0_bestOwl_33 rfl (lv_at hl 1 rfl) ?_
      refine lv_iload hx hb dX0_bestOwl_34 (lv_at hl 7 rfl) ?_
      refine fg_iast (g := 0) (i := 4) (t0 := 0) hx hb hX hC (cin rfl) rfl rfl (vin_b rfl) (cct G (pg (upd (upd d 8 x1) 8 (nI i1)) kp as1 un to sc fd tp sh) sp) (cs_owl (k := 0) (by decide)) dX0_bestOwl_36 (fun H locs hC => ?_)
      have hC := (congrArg (fun z => fC (cF G) (cct G (pg z kp as1 un to sc fd tp sh) sp) s.heap _ _) (upd_uu d 8 x1 (nI i1))).mp hC
      refine lv_aload_n hx hb dX0_bestOwl_37 rfl (lv_at hl 0 rfl) ?_
      refine lv_iload_n hx hb dX0_bestOwl_38 rfl (lv_at hl 3 rfl) ?_
      refine fc_VW (As := [.int n]) (rest := []) hx hb hml hown hts hX hC (m_X0_heardIn (hw.put8 (show i1 < 36 by omega)) n) (lw_VW q856 q858 qs15 q108 q859) hdV_X0_heardIn ⟨rfl, rfl⟩ ⟨Nat.le_of_ble_eq_true rfl, Nat.le_of_ble_eq_true rfl⟩ (fx_recv (g := 5) (i := 0) (ci := 1) (q := (RX0, TX0, 13)) hX hC (cin rfl) rfl rfl) hl.1 rfl (Nat.le_of_ble_eq_true rfl) ⟨Nat.zero_le _, Nat.zero_le _⟩ dX0_bestOwl_39 (fun _ H locs hC => ?_)
      refine W.eq (g2 := F0 m 42 ls [.int (p_heard (upd d 8 (nI i1)) (ix n))]) rfl ?_
      refine lv_istore (lv' := [(8, .int (p_heard (upd d 8 (nI i1)) (ix n))), (0, .ref (G.ad 5 0)), (1, .int 0), (2, .int 36), (3, .int n), (4, .int (d 8)), (5, .int ((p_bst (fun v => p_heard (upd d 8 (nI v)) (ix n)) 0 i1).1)), (6, .int ((p_bst (fun v => p_heard (upd d 8 (nI v)) (ix n)) 0 i1).2)), (7, .int (nI i1))]) hx hb dX0_bestOwl_42 hl (by decide) rfl (fun ls hl => ?_)
      refine lv_iload hx hb dX0_bestOwl_44 (lv_at hl 0 rfl) ?_
      refine lv_iload hx hb dX0_bestOwl_46 (lv_at hl 7 rfl) ?_
      refine fw_join (C := ((p_bst (fun v => p_heard (upd d 8 (nI v)) (ix n)) 0 i1).2) < (p_heard (upd d 8 (nI i1)) (ix n))) (a := nI i1) (b := (p_bst (fun v => p_heard (upd d 8 (nI v)) (ix n)) 0 i1).1) (pcj := 58) (ls := ls) (rest := []) (fun ja jb => ?_) ?_
      · refine fj_le (tgt := 56) hx hb dX0_bestOwl_48 (by decide) (fun c_5 => ?_) (fun c_5 => ?_)
        · refine lv_iload hx hb dX0_bestOwl_56 (lv_at hl 6 rfl) ?_
          exact jb c_5
        · refine lv_iload hx hb dX0_bestOwl_51 (lv_at hl 8 rfl) ?_
          refine lv_goto (tgt := 58) hx hb dX0_bestOwl_53 (by decide) ?_
          exact ja c_5
      refine lv_istore (lv' := [(5, .int (if ((p_bst (fun v => p_heard (upd d 8 (nI v)) (ix n)) 0 i1).2) < (p_heard (upd d 8 (nI i1)) (ix n)) then nI i1 else (p_bst (fun v => p_heard (upd d 8 (nI v)) (ix n)) 0 i1).1)), (8, .int (p_heard (upd d 8 (nI i1)) (ix n))), (0, .ref (G.ad 5 0)), (1, .int 0), (2, .int 36), (3, .int n), (4, .int (d 8)), (6, .int ((p_bst (fun v => p_heard (upd d 8 (nI v)) (ix n)) 0 i1).2)), (7, .int (nI i1))]) hx hb dX0_bestOwl_58 hl (by decide) rfl (fun ls hl => ?_)
      refine lv_iload hx hb dX0_bestOwl_60 (lv_at hl 7 rfl) ?_
      refine lv_iload hx hb dX0_bestOwl_62 (lv_at hl 1 rfl) ?_
      refine fw_max hx hb (hml.trans hl.1.symm) hown hts q939 (Nat.le_of_ble_eq_true rfl) (Nat.le_of_ble_eq_true rfl) (Nat.zero_le _) (Nat.zero_le _) q494 q125 q495 dX0_bestOwl_64 ?_
      refine lv_istore (lv' := [(6, .int (mx ((p_bst (fun v => p_heard (upd d 8 (nI v)) (ix n)) 0 i1).2) (p_heard (upd d 8 (nI i1)) (ix n)))), (5, .int (if ((p_bst (fun v => p_heard (upd d 8 (nI v)) (ix n)) 0 i1).2) < (p_heard (upd d 8 (nI i1)) (ix n)) then nI i1 else (p_bst (fun v => p_heard (upd d 8 (nI v)) (ix n)) 0 i1).1)), (8, .int (p_heard (upd d 8 (nI i1)) (ix n))), (0, .ref (G.ad 5 0)), (1, .int 0), (2, .int 36), (3, .int n), (4, .int (d 8)), (7, .int (nI i1))]) hx hb dX0_bestOwl_67 hl (by decide) rfl (fun ls hl => ?_)
      refine lv_iinc (v := nI (i1 + 1)) (lv' := [(7, .int (nI (i1 + 1))), (6, .int (mx ((p_bst (fun v => p_heard (upd d 8 (nI v)) (ix n)) 0 i1).2) (p_heard (upd d 8 (nI i1)) (ix n)))), (5, .int (if ((p_bst (fun v => p_heard (upd d 8 (nI v)) (ix n)) 0 i1).2) < (p_heard (upd d 8 (nI i1)) (ix n)) then nI i1 else (p_bst (fun v => p_heard (upd d 8 (nI v)) (ix n)) 0 i1).1)), (8, .int (p_heard (upd d 8 (nI i1)) (ix n))), (0, .ref (G.ad 5 0)), (1, .int 0), (2, .int 36), (3, .int n), (4, .int (d 8))]) hx hb dX0_bestOwl_69 hl (k := 8) rfl (nI_1 _) (by decide) rfl (fun ls hl => ?_)
      refine lv_goto (tgt := 20) hx hb dX0_bestOwl_72 (by decide) ?_
      exact ih1 (i1 + 1) (by omega) _ _ _ _ hC ls (lv_sub hl [4, 5, 6, 7, 8, 2, 1, 0] rfl)
  have hC := (congrArg (fun z => fC (cF G) (cct G (pg z kp as un to sc fd tp sh) sp) s.heap _ _) (upd_id d 8)).mp hC
  exact L_1 36 0 (by omega) _ _ _ _ hC ls (lv_sub hl [4, 5, 6, 7, 3, 2, 1, 0] rfl)
set_option maxRecDepth 100000 in
theorem m_X0_bestOwl_1 {l : Launch} {G : Gc} {d kp as un to sc fd tp sh : Row} {sp : Nat → Option Nat} (hw : WF d) (n : Int32) : Cm l yX0_bestOwl (ws_ yX0_bestOwl cX0_bestOwl 9 (some .int)) ({ frames := 5, cells := 0, slots := 0, locals := 127 }) (cF G) [.ref (G.ad 5 0), .int 1, .int 4, .int n] (cct G (pg d kp as un to sc fd tp sh) sp) (fun u : Row => some (.int (p_owl d 9 4 n))) (fun u => cct G (pg d kp u un to sc fd tp sh) sp) := by
  refine Cm.start (by decide) (Nat.le_of_ble_eq_true rfl) ?_
  intro p e s m below meth c hf hX hC ls hl
  obtain ⟨hx, hb, hr, hml, hown, hts, hlocks⟩ := hf
  have hl : lv_has ls 9 [(0, .ref (G.ad 5 0)), (1, .int 1), (2, .int 4), (3, .int n)] := hl
  have hown : s.vm.findClass "OwlEars" = some m.cls := hown
  refine lv_aload_n hx hb dX0_bestOwl_0 rfl (lv_at hl 0 rfl) ?_
  refine fg_get (C := RX0) (T := TX0) (N := 13) (ci := 1) (g := 5) (i := 0) (v := .ref (G.ad 0 0)) hx hb hown hts hX hC in_X0 rfl (cin rfl) rfl 3 (by decide) q425 (fun _ h => h) rfl dX0_bestOwl_1 ?_
  refine fg_getN (C := RX4) (T := TX4) (N := 9) (ci := 0) (g := 0) (i := 0) (v := .ref (G.ad 0 4)) hx hb hown hts hX hC in_X4 rfl (cin rfl) rfl 3 (by decide) (hX.2.2.1.F q250) (fun _ h => h) rfl dX0_bestOwl_4 ?_
  refine lv_iload_n hx hb dX0_bestOwl_7 rfl (lv_at hl 1 rfl) ?_
  refine fg_iald (g := 0) (i := 4) (t0 := 0) (v := d 9) hx hb hX hC (cin rfl) rfl rfl (vin_b rfl) rfl dX0_bestOwl_8 ?_
  refine lv_istore (lv' := [(4, .int (d 9)), (0, .ref (G.ad 5 0)), (1, .int 1), (2, .int 4), (3, .int n)]) hx hb dX0_bestOwl_9 hl (by decide) rfl (fun ls hl => ?_)
  refine lv_iconst (v := 0) hx hb dX0_bestOwl_11 rfl ?_
  refine lv_istore (lv' := [(5, .int 0), (4, .int (d 9)), (0, .ref (G.ad 5 0)), (1, .int 1), (2, .int 4), (3, .int n)]) hx hb dX0_bestOwl_12 hl (by decide) rfl (fun ls hl => ?_)
  refine lv_iconst (v := (-1)) hx hb dX0_bestOwl_14 rfl ?_
  refine lv_istore (lv' := [(6, .int (-1)), (5, .int 0), (4, .int (d 9)), (0, .ref (G.ad 5 0)), (1, .int 1), (2, .int 4), (3, .int n)]) hx hb dX0_bestOwl_15 hl (by decide) rfl (fun ls hl => ?_)
  refine lv_iconst (v := 0) hx hb dX0_bestOwl_17 rfl ?_
  refine lv_istore (lv' := [(7, .int 0), (6, .int (-1)), (5, .int 0), (4, .int (d 9)), (0, .ref (G.ad 5 0)), (1, .int 1), (2, .int 4), (3, .int n)]) hx hb dX0_bestOwl_18 hl (by decide) rfl (fun ls hl => ?_)
  have L_1 : ∀ (k1 i1 : Nat), i1 + k1 = 4 → ∀ (as1 : Row) (x1 : Int32) (H : Heap) (locs : List Loc), fC (cF G) (cct G (pg (upd d 9 x1) kp as1 un to sc fd tp sh) sp) s.heap H locs → ∀ ls : Array Slot, lv_has ls 9 [(0, .ref (G.ad 5 0)), (1, .int 1), (2, .int 4), (3, .int n), (4, .int (d 9)), (5, .int ((p_bst (fun v => p_heard (upd d 9 (nI v)) (ix n)) 0 i1).1)), (6, .int ((p_bst (fun v => p_heard (upd d 9 (nI v)) (ix n)) 0 i1).2)), (7, .int (nI i1))] → WG p l e ({ frames := 5, cells := 0, slots := 0, locals := 127 }) s m (([.ref (G.ad 5 0), .int 1, .int 4, .int n] : List Value).toArray) below meth c H locs (cF G) (fun u : Row => some (.int (p_owl d 9 4 n))) (fun u => cct G (pg d kp u un to sc fd tp sh) sp) (F0 m 20 ls []) := by
    intro k1
    induction k1 with
    | zero =>
      intro i1 hi1 as1 x1 H locs hC ls hl
      obtain rfl : i1 = 4 := by omega
      refine lv_iload hx hb dX0_bestOwl_20 (lv_at hl 7 rfl) ?_
      refine lv_iload_n hx hb dX0_bestOwl_22 rfl (lv_at hl 2 rfl) ?_
      refine fj_ge (tgt := 75) hx hb dX0_bestOwl_23 (by decide) (fun _ => ?_) (fun z_2 => absurd z_2 (nlt_ix (n := 4)))
      refine lv_aload_n hx hb dX0_bestOwl_75 rfl (lv_at hl 0 rfl) ?_
      refine fg_get (C := RX0) (T := TX0) (N := 13) (ci := 1) (g := 5) (i := 0) (v := .ref (G.ad 0 0)) hx hb hown hts hX hC in_X0 rfl (cin rfl) rfl 3 (by decide) q425 (fun _ h => h) rfl dX0_bestOwl_76 ?_
      refine fg_getN (C := RX4) (T := TX4) (N := 9) (ci := 0) (g := 0) (i := 0) (v := .ref (G.ad 0 4)) hx hb hown hts hX hC in_X4 rfl (cin rfl) rfl 3 (by decide) (hX.2.2.1.F q250) (fun _ h => h) rfl dX0_bestOwl_79 ?_
      refine lv_iload_n hx hb dX0_bestOwl_82 rfl (lv_at hl 1 rfl) ?_
      refine lv_iload hx hb dX0_bestOwl_83 (lv_at hl 4 rfl) ?_
      refine fg_iast (g := 0) (i := 4) (t0 := 0) hx hb hX hC (cin rfl) rfl rfl (vin_b rfl) (cct G (pg (upd (upd d 9 x1) 9 (d 9)) kp as1 un to sc fd tp sh) sp) (cs_owl (k := 1) (by decide)) dX0_bestOwl_85 (fun H locs hC => ?_)
      refine lv_iload hx hb dX0_bestOwl_86 (lv_at hl 5 rfl) ?_
      exact fr_i hx hb hr hlocks hX hC as1 (congrArg (fun z => some (Value.int z)) (rfl)) (congrArg (fun z => cct G (pg z kp as1 un to sc fd tp sh) sp) (upd_back d 9 _)) dX0_bestOwl_88
    | succ k1 ih1 =>
      intro i1 hi1 as1 x1 H locs hC ls hl
      refine lv_iload hx hb dX0_bestOwl_20 (lv_at hl 7 rfl) ?_
      refine lv_iload_n hx hb dX0_bestOwl_22 rfl (lv_at hl 2 rfl) ?_
      refine fj_ge (tgt := 75) hx hb dX0_bestOwl_23 (by decide) (fun z_3 => absurd (lt_ix (n := 4) (show i1 < 4 by omega)) z_3) (fun _ => ?_)
      refine lv_aload_n hx hb dX0_bestOwl_26 rfl (lv_at hl 0 rfl) ?_
      refine fg_get (C := RX0) (T := TX0) (N := 13) (ci := 1) (g := 5) (i := 0) (v := .ref (G.ad 0 0)) hx hb hown hts hX hC in_X0 rfl (cin rfl) rfl 3 (by decide) q425 (fun _ h => h) rfl dX0_bestOwl_27 ?_
      refine fg_getN (C := RX4) (T := TX4) (N := 9) (ci := 0) (g := 0) (i := 0) (v := .ref (G.ad 0 4)) hx hb hown hts hX hC in_X4 rfl (cin rfl) rfl 3 (by decide) (hX.2.2.1.F q250) (fun _ h => h) rfl dX0_bestOwl_30 ?_
      refine lv_iload_n hx hb dX0_bestOwl_33 rfl (lv_at hl 1 rfl) ?_
      refine lv_iload hx hb dX0_bestOwl_34 (lv_at hl 7 rfl) ?_
      refine fg_iast (g := 0) (i := 4) (t0 := 0) hx hb hX hC (cin rfl) rfl rfl (vin_b rfl) (cct G (pg (upd (upd d 9 x1) 9 (nI i1)) kp as1 un to sc fd tp sh) sp) (cs_owl (k := 1) (by decide)) dX0_bestOwl_36 (fun H locs hC => ?_)
      have hC := (congrArg (fun z => fC (cF G) (cct G (pg z kp as1 un to sc fd tp sh) sp) s.heap _ _) (upd_uu d 9 x1 (nI i1))).mp hC
      refine lv_aload_n hx hb dX0_bestOwl_37 rfl (lv_at hl 0 rfl) ?_
      refine lv_iload_n hx hb dX0_bestOwl_38 rfl (lv_at hl 3 rfl) ?_
      refine fc_VW (As := [.int n]) (rest := []) hx hb hml hown hts hX hC (m_X0_heardIn hw.put9 n) (lw_VW q856 q858 qs15 q108 q859) hdV_X0_heardIn ⟨rfl, rfl⟩ ⟨Nat.le_of_ble_eq_true rfl, Nat.le_of_ble_eq_true rfl⟩ (fx_recv (g := 5) (i := 0) (ci := 1) (q := (RX0, TX0, 13)) hX hC (cin rfl) rfl rfl) hl.1 rfl (Nat.le_of_ble_eq_true rfl) ⟨Nat.zero_le _, Nat.zero_le _⟩ dX0_bestOwl_39 (fun _ H locs hC => ?_)
      refine W.eq (g2 := F0 m 42 ls [.int (p_heard (upd d 9 (nI i1)) (ix n))]) rfl ?_
      refine lv_istore (lv' := [(8, .int (p_heard (upd d 9 (nI i1)) (ix n))), (0, .ref (G.ad 5 0)), (1, .int 1), (2, .int 4), (3, .int n), (4, .int (d 9)), (5, .int ((p_bst (fun v => p_heard (upd d 9 (nI v)) (ix n)) 0 i1).1)), (6, .int ((p_bst (fun v => p_heard (upd d 9 (nI v)) (ix n)) 0 i1).2)), (7, .int (nI i1))]) hx hb dX0_bestOwl_42 hl (by decide) rfl (fun ls hl => ?_)
      refine lv_iload hx hb dX0_bestOwl_44 (lv_at hl 0 rfl) ?_
      refine lv_iload hx hb dX0_bestOwl_46 (lv_at hl 7 rfl) ?_
      refine fw_join (C := ((p_bst (fun v => p_heard (upd d 9 (nI v)) (ix n)) 0 i1).2) < (p_heard (upd d 9 (nI i1)) (ix n))) (a := nI i1) (b := (p_bst (fun v => p_heard (upd d 9 (nI v)) (ix n)) 0 i1).1) (pcj := 58) (ls := ls) (rest := []) (fun ja jb => ?_) ?_
      · refine fj_le (tgt := 56) hx hb dX0_bestOwl_48 (by decide) (fun c_5 => ?_) (fun c_5 => ?_)
        · refine lv_iload hx hb dX0_bestOwl_56 (lv_at hl 6 rfl) ?_
          exact jb c_5
        · refine lv_iload hx hb dX0_bestOwl_51 (lv_at hl 8 rfl) ?_
          refine lv_goto (tgt := 58) hx hb dX0_bestOwl_53 (by decide) ?_
          exact ja c_5
      refine lv_istore (lv' := [(5, .int (if ((p_bst (fun v => p_heard (upd d 9 (nI v)) (ix n)) 0 i1).2) < (p_heard (upd d 9 (nI i1)) (ix n)) then nI i1 else (p_bst (fun v => p_heard (upd d 9 (nI v)) (ix n)) 0 i1).1)), (8, .int (p_heard (upd d 9 (nI i1)) (ix n))), (0, .ref (G.ad 5 0)), (1, .int 1), (2, .int 4), (3, .int n), (4, .int (d 9)), (6, .int ((p_bst (fun v => p_heard (upd d 9 (nI v)) (ix n)) 0 i1).2)), (7, .int (nI i1))]) hx hb dX0_bestOwl_58 hl (by decide) rfl (fun ls hl => ?_)
      refine lv_iload hx hb dX0_bestOwl_60 (lv_at hl 7 rfl) ?_
      refine lv_iload hx hb dX0_bestOwl_62 (lv_at hl 1 rfl) ?_
      refine fw_max hx hb (hml.trans hl.1.symm) hown hts q939 (Nat.le_of_ble_eq_true rfl) (Nat.le_of_ble_eq_true rfl) (Nat.zero_le _) (Nat.zero_le _) q494 q125 q495 dX0_bestOwl_64 ?_
      refine lv_istore (lv' := [(6, .int (mx ((p_bst (fun v => p_heard (upd d 9 (nI v)) (ix n)) 0 i1).2) (p_heard (upd d 9 (nI i1)) (ix n)))), (5, .int (if ((p_bst (fun v => p_heard (upd d 9 (nI v)) (ix n)) 0 i1).2) < (p_heard (upd d 9 (nI i1)) (ix n)) then nI i1 else (p_bst (fun v => p_heard (upd d 9 (nI v)) (ix n)) 0 i1).1)), (8, .int (p_heard (upd d 9 (nI i1)) (ix n))), (0, .ref (G.ad 5 0)), (1, .int 1), (2, .int 4), (3, .int n), (4, .int (d 9)), (7, .int (nI i1))]) hx hb dX0_bestOwl_67 hl (by decide) rfl (fun ls hl => ?_)
      refine lv_iinc (v := nI (i1 + 1)) (lv' := [(7, .int (nI (i1 + 1))), (6, .int (mx ((p_bst (fun v => p_heard (upd d 9 (nI v)) (ix n)) 0 i1).2) (p_heard (upd d 9 (nI i1)) (ix n)))), (5, .int (if ((p_bst (fun v => p_heard (upd d 9 (nI v)) (ix n)) 0 i1).2) < (p_heard (upd d 9 (nI i1)) (ix n)) then nI i1 else (p_bst (fun v => p_heard (upd d 9 (nI v)) (ix n)) 0 i1).1)), (8, .int (p_heard (upd d 9 (nI i1)) (ix n))), (0, .ref (G.ad 5 0)), (1, .int 1), (2, .int 4), (3, .int n), (4, .int (d 9))]) hx hb dX0_bestOwl_69 hl (k := 8) rfl (nI_1 _) (by decide) rfl (fun ls hl => ?_)
      refine lv_goto (tgt := 20) hx hb dX0_bestOwl_72 (by decide) ?_
      exact ih1 (i1 + 1) (by omega) _ _ _ _ hC ls (lv_sub hl [4, 5, 6, 7, 8, 2, 1, 0] rfl)
  have hC := (congrArg (fun z => fC (cF G) (cct G (pg z kp as un to sc fd tp sh) sp) s.heap _ _) (upd_id d 9)).mp hC
  exact L_1 4 0 (by omega) _ _ _ _ hC ls (lv_sub hl [4, 5, 6, 7, 3, 2, 1, 0] rfl)
set_option maxRecDepth 100000 in
theorem m_X0_post {l : Launch} {G : Gc} {d kp as un to sc fd tp sh : Row} {sp : Nat → Option Nat} (hw : WF d) (n : Int32) : Cm l yX0_post (ws_ yX0_post cX0_post 2 (some .int)) ({ frames := 6, cells := 0, slots := 0, locals := 155 }) (cF G) [.ref (G.ad 5 0), .int n] (cct G (pg d kp as un to sc fd tp sh) sp) (fun u : Row => some (.int ((s_post d fd n).1))) (fun u => cct G (pg d kp u un to sc ((s_post d fd n).2) tp sh) sp) := by
  refine Cm.start (by decide) (Nat.le_of_ble_eq_true rfl) ?_
  intro p e s m below meth c hf hX hC ls hl
  obtain ⟨hx, hb, hr, hml, hown, hts, hlocks⟩ := hf
  have hl : lv_has ls 2 [(0, .ref (G.ad 5 0)), (1, .int n)] := hl
  have hown : s.vm.findClass "OwlEars" = some m.cls := hown
  refine lv_iload_n hx hb dX0_post_0 rfl (lv_at hl 1 rfl) ?_
  refine lv_iconst (v := 0) hx hb dX0_post_1 rfl ?_
  refine lv_bipush (v := 100) hx hb dX0_post_2 rfl ?_
  refine fc_S (As := [.int n, .int 0, .int 100]) (rest := []) hx hb hml hown hts hX hC (m_X0_in n 0 100) (lw_S q469 q470 q108 q471) hdS_X0_in ⟨rfl, rfl⟩ ⟨Nat.le_of_ble_eq_true rfl, Nat.le_of_ble_eq_true rfl⟩ hl.1 rfl (Nat.le_of_ble_eq_true rfl) ⟨Nat.zero_le _, Nat.zero_le _⟩ dX0_post_4 (fun _ H locs hC => ?_)
  refine W.eq (g2 := F0 m 7 ls [.int (b2i (p_in n 0 100))]) rfl ?_
  refine fb_eq (tgt := 21) hx hb dX0_post_7 (by decide) (fun c_2 => ?_) (fun c_2 => ?_)
  · refine lv_aload_n hx hb dX0_post_21 rfl (lv_at hl 0 rfl) ?_
    refine lv_iconst (v := 0) hx hb dX0_post_22 rfl ?_
    refine fc_V (As := [.int 0]) (rest := []) hx hb hml hown hts hX hC (m_X0_finding 0 (vin_b rfl)) (lw_V q472 q474 qs2 q108 q475) hdV_X0_finding ⟨rfl, rfl⟩ ⟨Nat.le_of_ble_eq_true rfl, Nat.le_of_ble_eq_true rfl⟩ (fx_recv (g := 5) (i := 0) (ci := 1) (q := (RX0, TX0, 13)) hX hC (cin rfl) rfl rfl) hl.1 rfl (Nat.le_of_ble_eq_true rfl) ⟨Nat.zero_le _, Nat.zero_le _⟩ dX0_post_23 (fun _ H locs hC => ?_)
    refine W.eq (g2 := F0 m 26 ls [.int (-1000001)]) rfl ?_
    have hs : s_post d fd n = (((-1000001), p_find fd 0) : Int32 × Row) := by first | grind [s_post] | rfl
    exact fr_i hx hb hr hlocks hX hC as (congrArg (fun z => some (Value.int z)) (t2_1 hs)) (congrArg (fun z => cct G (pg d kp as un to sc z tp sh) sp) (t2_2 hs)).symm dX0_post_26
  · refine lv_aload_n hx hb dX0_post_10 rfl (lv_at hl 0 rfl) ?_
    refine lv_iconst (v := 0) hx hb dX0_post_11 rfl ?_
    refine lv_bipush (v := 36) hx hb dX0_post_12 rfl ?_
    refine lv_iload_n hx hb dX0_post_14 rfl (lv_at hl 1 rfl) ?_
    refine fc_V (As := [.int 0, .int 36, .int n]) (rest := []) hx hb hml hown hts hX hC (m_X0_bestOwl_0 hw n) (lw_V q944 q946 qs24 q108 q947) hdV_X0_bestOwl ⟨rfl, rfl⟩ ⟨Nat.le_of_ble_eq_true rfl, Nat.le_of_ble_eq_true rfl⟩ (fx_recv (g := 5) (i := 0) (ci := 1) (q := (RX0, TX0, 13)) hX hC (cin rfl) rfl rfl) hl.1 rfl (Nat.le_of_ble_eq_true rfl) ⟨Nat.zero_le _, Nat.zero_le _⟩ dX0_post_15 (fun u_4 H locs hC => ?_)
    refine W.eq (g2 := F0 m 18 ls [.int (p_owl d 8 36 n)]) rfl ?_
    refine lv_goto (tgt := 26) hx hb dX0_post_18 (by decide) ?_
    have hs : s_post d fd n = ((p_owl d 8 36 n, fd) : Int32 × Row) := by first | grind [s_post] | rfl
    exact fr_i hx hb hr hlocks hX hC u_4 (congrArg (fun z => some (Value.int z)) (t2_1 hs)) (congrArg (fun z => cct G (pg d kp u_4 un to sc z tp sh) sp) (t2_2 hs)).symm dX0_post_26
set_option maxRecDepth 100000 in
theorem m_X0_face {l : Launch} {G : Gc} {d kp as un to sc fd tp sh : Row} {sp : Nat → Option Nat} (hw : WF d) (n : Int32) : Cm l yX0_face (ws_ yX0_face cX0_face 2 (some .int)) ({ frames := 6, cells := 0, slots := 0, locals := 155 }) (cF G) [.ref (G.ad 5 0), .int n] (cct G (pg d kp as un to sc fd tp sh) sp) (fun u : Row => some (.int ((s_face d fd n).1))) (fun u => cct G (pg d kp u un to sc ((s_face d fd n).2) tp sh) sp) := by
  refine Cm.start (by decide) (Nat.le_of_ble_eq_true rfl) ?_
  intro p e s m below meth c hf hX hC ls hl
  obtain ⟨hx, hb, hr, hml, hown, hts, hlocks⟩ := hf
  have hl : lv_has ls 2 [(0, .ref (G.ad 5 0)), (1, .int n)] := hl
  have hown : s.vm.findClass "OwlEars" = some m.cls := hown
  refine lv_iload_n hx hb dX0_face_0 rfl (lv_at hl 1 rfl) ?_
  refine lv_iconst (v := 0) hx hb dX0_face_1 rfl ?_
  refine lv_bipush (v := 100) hx hb dX0_face_2 rfl ?_
  refine fc_S (As := [.int n, .int 0, .int 100]) (rest := []) hx hb hml hown hts hX hC (m_X0_in n 0 100) (lw_S q469 q470 q108 q471) hdS_X0_in ⟨rfl, rfl⟩ ⟨Nat.le_of_ble_eq_true rfl, Nat.le_of_ble_eq_true rfl⟩ hl.1 rfl (Nat.le_of_ble_eq_true rfl) ⟨Nat.zero_le _, Nat.zero_le _⟩ dX0_face_4 (fun _ H locs hC => ?_)
  refine W.eq (g2 := F0 m 7 ls [.int (b2i (p_in n 0 100))]) rfl ?_
  refine fb_eq (tgt := 20) hx hb dX0_face_7 (by decide) (fun c_2 => ?_) (fun c_2 => ?_)
  · refine lv_aload_n hx hb dX0_face_20 rfl (lv_at hl 0 rfl) ?_
    refine lv_iconst (v := 0) hx hb dX0_face_21 rfl ?_
    refine fc_V (As := [.int 0]) (rest := []) hx hb hml hown hts hX hC (m_X0_finding 0 (vin_b rfl)) (lw_V q472 q474 qs2 q108 q475) hdV_X0_finding ⟨rfl, rfl⟩ ⟨Nat.le_of_ble_eq_true rfl, Nat.le_of_ble_eq_true rfl⟩ (fx_recv (g := 5) (i := 0) (ci := 1) (q := (RX0, TX0, 13)) hX hC (cin rfl) rfl rfl) hl.1 rfl (Nat.le_of_ble_eq_true rfl) ⟨Nat.zero_le _, Nat.zero_le _⟩ dX0_face_22 (fun _ H locs hC => ?_)
    refine W.eq (g2 := F0 m 25 ls [.int (-1000001)]) rfl ?_
    have hs : s_face d fd n = (((-1000001), p_find fd 0) : Int32 × Row) := by first | grind [s_face] | rfl
    exact fr_i hx hb hr hlocks hX hC as (congrArg (fun z => some (Value.int z)) (t2_1 hs)) (congrArg (fun z => cct G (pg d kp as un to sc z tp sh) sp) (t2_2 hs)).symm dX0_face_25
  · refine lv_aload_n hx hb dX0_face_10 rfl (lv_at hl 0 rfl) ?_
    refine lv_iconst (v := 1) hx hb dX0_face_11 rfl ?_
    refine lv_iconst (v := 4) hx hb dX0_face_12 rfl ?_
    refine lv_iload_n hx hb dX0_face_13 rfl (lv_at hl 1 rfl) ?_
    refine fc_V (As := [.int 1, .int 4, .int n]) (rest := []) hx hb hml hown hts hX hC (m_X0_bestOwl_1 hw n) (lw_V q944 q946 qs24 q108 q947) hdV_X0_bestOwl ⟨rfl, rfl⟩ ⟨Nat.le_of_ble_eq_true rfl, Nat.le_of_ble_eq_true rfl⟩ (fx_recv (g := 5) (i := 0) (ci := 1) (q := (RX0, TX0, 13)) hX hC (cin rfl) rfl rfl) hl.1 rfl (Nat.le_of_ble_eq_true rfl) ⟨Nat.zero_le _, Nat.zero_le _⟩ dX0_face_14 (fun u_4 H locs hC => ?_)
    refine W.eq (g2 := F0 m 17 ls [.int (p_owl d 9 4 n)]) rfl ?_
    refine lv_goto (tgt := 25) hx hb dX0_face_17 (by decide) ?_
    have hs : s_face d fd n = ((p_owl d 9 4 n, fd) : Int32 × Row) := by first | grind [s_face] | rfl
    exact fr_i hx hb hr hlocks hX hC u_4 (congrArg (fun z => some (Value.int z)) (t2_1 hs)) (congrArg (fun z => cct G (pg d kp u_4 un to sc z tp sh) sp) (t2_2 hs)).symm dX0_face_25
