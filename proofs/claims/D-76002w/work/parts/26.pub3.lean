theorem hdV_X0_bestIn : yX0_bestIn.cls = RX0 ∧ yX0_bestIn.cls ≠ "java/lang/invoke/MethodHandle" ∧ yX0_bestIn.cls ≠ "java/lang/invoke/VarHandle" ∧ (parseMethodDescriptor yX0_bestIn.desc).map (fun d => d.parameters.length) = some 1 := by decide +kernel
set_option maxRecDepth 100000 in
theorem m_X0_areTicks {l : Launch} {G : Gc} {d kp as un to sc fd tp sh : Row} {sp : Nat → Option Nat} (n k : Int32) : Cm l yX0_areTicks (ws_ yX0_areTicks cX0_areTicks 3 (some .boolean)) ({ frames := 1, cells := 0, slots := 0, locals := 22 }) (cF G) [.ref (G.ad 5 0), .int n, .int k] (cct G (pg d kp as un to sc fd tp sh) sp) (fun _ : Unit => some (.int (b2i (p_okTicks n k)))) (fun _ => cct G (pg d kp as un to sc fd tp sh) sp) := by
  refine Cm.start (by decide) (Nat.le_of_ble_eq_true rfl) ?_
  intro p e s m below meth c hf hX hC ls hl
  obtain ⟨hx, hb, hr, hml, hown, hts, hlocks⟩ := hf
  have hl : lv_has ls 3 [(0, .ref (G.ad 5 0)), (1, .int n), (2, .int k)] := hl
  have hown : s.vm.findClass "OwlEars" = some m.cls := hown
  refine lv_iload_n hx hb dX0_areTicks_0 rfl (lv_at hl 1 rfl) ?_
  refine lv_iconst (v := 1) hx hb dX0_areTicks_1 rfl ?_
  refine lv_bipush (v := 60) hx hb dX0_areTicks_2 rfl ?_
  refine fc_S (As := [.int n, .int 1, .int 60]) (rest := []) hx hb hml hown hts hX hC (m_X0_in n 1 60) (lw_S q469 q470 q108 q471) hdS_X0_in ⟨rfl, rfl⟩ ⟨Nat.le_of_ble_eq_true rfl, Nat.le_of_ble_eq_true rfl⟩ hl.1 rfl (Nat.le_of_ble_eq_true rfl) ⟨Nat.zero_le _, Nat.zero_le _⟩ dX0_areTicks_4 (fun _ H locs hC => ?_)
  refine W.eq (g2 := F0 m 7 ls [.int (b2i (p_in n 1 60))]) rfl ?_
  refine fb_eq (tgt := 23) hx hb dX0_areTicks_7 (by decide) (fun c_2 => ?_) (fun c_2 => ?_)
  · refine lv_iconst (v := 0) hx hb dX0_areTicks_23 rfl ?_
    exact fr_z hx hb hr rfl hlocks hX hC () (congrArg (fun z => some (Value.int z)) (b2i_f (by grind))) rfl dX0_areTicks_24
  · refine lv_iload_n hx hb dX0_areTicks_10 rfl (lv_at hl 2 rfl) ?_
    refine lv_iconst (v := 0) hx hb dX0_areTicks_11 rfl ?_
    refine lv_iload_n hx hb dX0_areTicks_12 rfl (lv_at hl 1 rfl) ?_
    refine fc_S (As := [.int k, .int 0, .int n]) (rest := []) hx hb hml hown hts hX hC (m_X0_in k 0 n) (lw_S q469 q470 q108 q471) hdS_X0_in ⟨rfl, rfl⟩ ⟨Nat.le_of_ble_eq_true rfl, Nat.le_of_ble_eq_true rfl⟩ hl.1 rfl (Nat.le_of_ble_eq_true rfl) ⟨Nat.zero_le _, Nat.zero_le _⟩ dX0_areTicks_13 (fun _ H locs hC => ?_)
    refine W.eq (g2 := F0 m 16 ls [.int (b2i (p_in k 0 n))]) rfl ?_
    refine fb_eq (tgt := 23) hx hb dX0_areTicks_16 (by decide) (fun c_4 => ?_) (fun c_4 => ?_)
    · refine lv_iconst (v := 0) hx hb dX0_areTicks_23 rfl ?_
      exact fr_z hx hb hr rfl hlocks hX hC () (congrArg (fun z => some (Value.int z)) (b2i_f (by grind))) rfl dX0_areTicks_24
    · refine lv_iconst (v := 1) hx hb dX0_areTicks_19 rfl ?_
      refine lv_goto (tgt := 24) hx hb dX0_areTicks_20 (by decide) ?_
      exact fr_z hx hb hr rfl hlocks hX hC () (congrArg (fun z => some (Value.int z)) (b2i_t (by grind))) rfl dX0_areTicks_24
set_option maxRecDepth 100000 in
theorem m_X0_runsIn {l : Launch} {G : Gc} {d kp as un to sc fd tp sh : Row} {sp : Nat → Option Nat} (hw : WF d) (n : Int32) : Cm l yX0_runsIn (ws_ yX0_runsIn cX0_runsIn 4 (some .int)) ({ frames := 0, cells := 0, slots := 0, locals := 0 }) (cF G) [.ref (G.ad 5 0), .int n] (cct G (pg d kp as un to sc fd tp sh) sp) (fun _ : Unit => some (.int (p_runs d (ix n)))) (fun _ => cct G (pg d kp as un to sc fd tp sh) sp) := by
  refine Cm.start (by decide) (Nat.le_of_ble_eq_true rfl) ?_
  intro p e s m below meth c hf hX hC ls hl
  obtain ⟨hx, hb, hr, hml, hown, hts, hlocks⟩ := hf
  have hl : lv_has ls 4 [(0, .ref (G.ad 5 0)), (1, .int n)] := hl
  have hown : s.vm.findClass "OwlEars" = some m.cls := hown
  refine lv_iconst (v := 0) hx hb dX0_runsIn_0 rfl ?_
  refine lv_istore_n (lv' := [(2, .int 0), (0, .ref (G.ad 5 0)), (1, .int n)]) hx hb dX0_runsIn_1 rfl hl (by decide) rfl (fun ls hl => ?_)
  refine lv_iconst (v := 0) hx hb dX0_runsIn_2 rfl ?_
  refine lv_istore_n (lv' := [(3, .int 0), (2, .int 0), (0, .ref (G.ad 5 0)), (1, .int n)]) hx hb dX0_runsIn_3 rfl hl (by decide) rfl (fun ls hl => ?_)
  have L_1 : ∀ (k1 i1 : Nat), i1 + k1 = ix n → ∀ (H : Heap) (locs : List Loc), fC (cF G) (cct G (pg d kp as un to sc fd tp sh) sp) s.heap H locs → ∀ ls : Array Slot, lv_has ls 4 [(3, .int (nI i1)), (2, .int (p_runs d i1)), (0, .ref (G.ad 5 0)), (1, .int n)] → WG p l e ({ frames := 0, cells := 0, slots := 0, locals := 0 }) s m (([.ref (G.ad 5 0), .int n] : List Value).toArray) below meth c H locs (cF G) (fun _ : Unit => some (.int (p_runs d (ix n)))) (fun _ => cct G (pg d kp as un to sc fd tp sh) sp) (F0 m 4 ls []) := by
    intro k1
    induction k1 with
    | zero =>
      intro i1 hi1 H locs hC ls hl
      obtain rfl : i1 = ix n := by omega
      refine lv_iload_n hx hb dX0_runsIn_4 rfl (lv_at hl 0 rfl) ?_
      refine lv_iload_n hx hb dX0_runsIn_5 rfl (lv_at hl 3 rfl) ?_
      refine fj_ge (tgt := 56) hx hb dX0_runsIn_6 (by decide) (fun _ => ?_) (fun z_2 => absurd z_2 (nlt_ix (n := n)))
      refine lv_iload_n hx hb dX0_runsIn_56 rfl (lv_at hl 1 rfl) ?_
      exact fr_i hx hb hr hlocks hX hC () rfl rfl dX0_runsIn_57
    | succ k1 ih1 =>
      intro i1 hi1 H locs hC ls hl
      have hz1 : i1 < 2147483648 := by have := ix_lt n; omega
      refine lv_iload_n hx hb dX0_runsIn_4 rfl (lv_at hl 0 rfl) ?_
      refine lv_iload_n hx hb dX0_runsIn_5 rfl (lv_at hl 3 rfl) ?_
      refine fj_ge (tgt := 56) hx hb dX0_runsIn_6 (by decide) (fun z_3 => absurd (lt_ix (n := n) (show i1 < ix n by omega)) z_3) (fun _ => ?_)
      refine lv_iload_n hx hb dX0_runsIn_9 rfl (lv_at hl 1 rfl) ?_
      refine lv_iload_n hx hb dX0_runsIn_10 rfl (lv_at hl 0 rfl) ?_
      refine lv_aload_n hx hb dX0_runsIn_11 rfl (lv_at hl 2 rfl) ?_
      refine fg_get (C := RX0) (T := TX0) (N := 13) (ci := 1) (g := 5) (i := 0) (v := .ref (G.ad 0 0)) hx hb hown hts hX hC in_X0 rfl (cin rfl) rfl 3 (by decide) q425 (fun _ h => h) rfl dX0_runsIn_12 ?_
      refine fg_getN (C := RX4) (T := TX4) (N := 9) (ci := 0) (g := 0) (i := 0) (v := .ref (G.ad 0 3)) hx hb hown hts hX hC in_X4 rfl (cin rfl) rfl 2 (by decide) (hX.2.2.1.F q246) (fun _ h => h) rfl dX0_runsIn_15 ?_
      refine lv_iconst (v := 2) hx hb dX0_runsIn_18 rfl ?_
      refine fg_iald (g := 0) (i := 3) (t0 := 0) (v := d 5) hx hb hX hC (cin rfl) rfl rfl (vin_b rfl) rfl dX0_runsIn_19 ?_
      refine lv_aload_n hx hb dX0_runsIn_20 rfl (lv_at hl 2 rfl) ?_
      refine fg_get (C := RX0) (T := TX0) (N := 13) (ci := 1) (g := 5) (i := 0) (v := .ref (G.ad 0 0)) hx hb hown hts hX hC in_X0 rfl (cin rfl) rfl 3 (by decide) q425 (fun _ h => h) rfl dX0_runsIn_21 ?_
      refine fg_getN (C := RX4) (T := TX4) (N := 9) (ci := 0) (g := 0) (i := 0) (v := .ref (G.ad 0 3)) hx hb hown hts hX hC in_X4 rfl (cin rfl) rfl 2 (by decide) (hX.2.2.1.F q246) (fun _ h => h) rfl dX0_runsIn_24 ?_
      refine lv_iconst (v := 3) hx hb dX0_runsIn_27 rfl ?_
      refine fg_iald (g := 0) (i := 3) (t0 := 0) (v := d 6) hx hb hX hC (cin rfl) rfl rfl (vin_b rfl) rfl dX0_runsIn_28 ?_
      refine lv_iadd hx hb dX0_runsIn_29 ?_
      refine fw_irem hx hb dX0_runsIn_30 hw.rp ?_
      refine lv_aload_n hx hb dX0_runsIn_31 rfl (lv_at hl 2 rfl) ?_
      refine fg_get (C := RX0) (T := TX0) (N := 13) (ci := 1) (g := 5) (i := 0) (v := .ref (G.ad 0 0)) hx hb hown hts hX hC in_X0 rfl (cin rfl) rfl 3 (by decide) q425 (fun _ h => h) rfl dX0_runsIn_32 ?_
      refine fg_getN (C := RX4) (T := TX4) (N := 9) (ci := 0) (g := 0) (i := 0) (v := .ref (G.ad 0 3)) hx hb hown hts hX hC in_X4 rfl (cin rfl) rfl 2 (by decide) (hX.2.2.1.F q246) (fun _ h => h) rfl dX0_runsIn_35 ?_
      refine lv_iconst (v := 2) hx hb dX0_runsIn_38 rfl ?_
      refine fg_iald (g := 0) (i := 3) (t0 := 0) (v := d 5) hx hb hX hC (cin rfl) rfl rfl (vin_b rfl) rfl dX0_runsIn_39 ?_
      refine fw_joinb (C := (rm (nI i1) ((d 5) + (d 6))) < (d 5)) (pcj := 48) (ls := ls) (rest := [.int (p_runs d i1)]) (fun ja jb => ?_) ?_
      · refine fj_ge (tgt := 47) hx hb dX0_runsIn_40 (by decide) (fun c_4 => ?_) (fun c_4 => ?_)
        · refine lv_iconst (v := 0) hx hb dX0_runsIn_47 rfl ?_
          exact jb c_4
        · refine lv_iconst (v := 1) hx hb dX0_runsIn_43 rfl ?_
          refine lv_goto (tgt := 48) hx hb dX0_runsIn_44 (by decide) ?_
          exact ja c_4
      refine lv_iadd hx hb dX0_runsIn_48 ?_
      refine lv_istore_n (lv' := [(2, .int ((p_runs d i1) + (b2i ((rm (nI i1) ((d 5) + (d 6))) < (d 5))))), (3, .int (nI i1)), (0, .ref (G.ad 5 0)), (1, .int n)]) hx hb dX0_runsIn_49 rfl hl (by decide) rfl (fun ls hl => ?_)
      refine lv_iinc (v := nI (i1 + 1)) (lv' := [(3, .int (nI (i1 + 1))), (2, .int ((p_runs d i1) + (b2i ((rm (nI i1) ((d 5) + (d 6))) < (d 5))))), (0, .ref (G.ad 5 0)), (1, .int n)]) hx hb dX0_runsIn_50 hl (k := 1) rfl (nI_1 _) (by decide) rfl (fun ls hl => ?_)
      refine lv_goto (tgt := 4) hx hb dX0_runsIn_53 (by decide) ?_
      exact ih1 (i1 + 1) (by omega) _ _ hC ls (lv_sub hl [0, 1, 2, 3] rfl)
  exact L_1 (ix n) 0 (by omega) _ _ hC ls (lv_sub hl [0, 1, 2, 3] rfl)
set_option maxRecDepth 100000 in
theorem m_X0_bestIn {l : Launch} {G : Gc} {d kp as un to sc fd tp sh : Row} {sp : Nat → Option Nat} (hw : WF d) (n : Int32) : Cm l yX0_bestIn (ws_ yX0_bestIn cX0_bestIn 6 (some .int)) ({ frames := 11, cells := 0, slots := 0, locals := 371 }) (cF G) [.ref (G.ad 5 0), .int n] (cct G (pg d kp as un to sc fd tp sh) sp) (fun u : Row × Row => some (.int (p_best d n))) (fun u => cct G (pg d kp u.1 u.2 to sc fd tp sh) sp) := by
  refine Cm.start (by decide) (Nat.le_of_ble_eq_true rfl) ?_
  intro p e s m below meth c hf hX hC ls hl
  obtain ⟨hx, hb, hr, hml, hown, hts, hlocks⟩ := hf
  have hl : lv_has ls 6 [(0, .ref (G.ad 5 0)), (1, .int n)] := hl
  have hown : s.vm.findClass "OwlEars" = some m.cls := hown
  refine lv_iconst (v := (-1)) hx hb dX0_bestIn_0 rfl ?_
  refine lv_istore_n (lv' := [(2, .int (-1)), (0, .ref (G.ad 5 0)), (1, .int n)]) hx hb dX0_bestIn_1 rfl hl (by decide) rfl (fun ls hl => ?_)
  refine lv_iconst (v := (-1)) hx hb dX0_bestIn_2 rfl ?_
  refine lv_istore_n (lv' := [(3, .int (-1)), (2, .int (-1)), (0, .ref (G.ad 5 0)), (1, .int n)]) hx hb dX0_bestIn_3 rfl hl (by decide) rfl (fun ls hl => ?_)
  refine lv_iconst (v := 0) hx hb dX0_bestIn_4 rfl ?_
  refine lv_istore (lv' := [(4, .int 0), (3, .int (-1)), (2, .int (-1)), (0, .ref (G.ad 5 0)), (1, .int n)]) hx hb dX0_bestIn_5 hl (by decide) rfl (fun ls hl => ?_)
  have L_1 : ∀ (k1 i1 : Nat), i1 + k1 = ix (d 1) → ∀ (as1 : Row) (un1 : Row) (H : Heap) (locs : List Loc), fC (cF G) (cct G (pg d kp as1 un1 to sc fd tp sh) sp) s.heap H locs → ∀ ls : Array Slot, lv_has ls 6 [(0, .ref (G.ad 5 0)), (1, .int n), (2, .int ((p_bst (fun k => p_chances d (nI k) (ix n)) (-1) i1).1)), (3, .int ((p_bst (fun k => p_chances d (nI k) (ix n)) (-1) i1).2)), (4, .int (nI i1))] → WG p l e ({ frames := 11, cells := 0, slots := 0, locals := 371 }) s m (([.ref (G.ad 5 0), .int n] : List Value).toArray) below meth c H locs (cF G) (fun u : Row × Row => some (.int (p_best d n))) (fun u => cct G (pg d kp u.1 u.2 to sc fd tp sh) sp) (F0 m 7 ls []) := by
    intro k1
    induction k1 with
    | zero =>
      intro i1 hi1 as1 un1 H locs hC ls hl
      obtain rfl : i1 = ix (d 1) := by omega
      refine lv_iload hx hb dX0_bestIn_7 (lv_at hl 4 rfl) ?_
      refine lv_aload_n hx hb dX0_bestIn_9 rfl (lv_at hl 0 rfl) ?_
      refine fg_get (C := RX0) (T := TX0) (N := 13) (ci := 1) (g := 5) (i := 0) (v := .ref (G.ad 0 0)) hx hb hown hts hX hC in_X0 rfl (cin rfl) rfl 3 (by decide) q425 (fun _ h => h) rfl dX0_bestIn_10 ?_
      refine fg_getN (C := RX4) (T := TX4) (N := 9) (ci := 0) (g := 0) (i := 0) (v := .int (d 1)) hx hb hown hts hX hC in_X4 rfl (cin rfl) rfl 4 (by decide) (hX.2.2.1.F q253) (fun _ h => h) rfl dX0_bestIn_13 ?_
      refine fj_ge (tgt := 54) hx hb dX0_bestIn_16 (by decide) (fun _ => ?_) (fun z_2 => absurd z_2 (nlt_ix (n := d 1)))
      refine lv_iload_n hx hb dX0_bestIn_54 rfl (lv_at hl 2 rfl) ?_
      exact fr_i hx hb hr hlocks hX hC ⟨as1, un1⟩ (congrArg (fun z => some (Value.int z)) (rfl)) rfl dX0_bestIn_55
    | succ k1 ih1 =>
      intro i1 hi1 as1 un1 H locs hC ls hl
      have hz1 : i1 < 2147483648 := by have := ix_lt (d 1); omega
      refine lv_iload hx hb dX0_bestIn_7 (lv_at hl 4 rfl) ?_
      refine lv_aload_n hx hb dX0_bestIn_9 rfl (lv_at hl 0 rfl) ?_
      refine fg_get (C := RX0) (T := TX0) (N := 13) (ci := 1) (g := 5) (i := 0) (v := .ref (G.ad 0 0)) hx hb hown hts hX hC in_X0 rfl (cin rfl) rfl 3 (by decide) q425 (fun _ h => h) rfl dX0_bestIn_10 ?_
      refine fg_getN (C := RX4) (T := TX4) (N := 9) (ci := 0) (g := 0) (i := 0) (v := .int (d 1)) hx hb hown hts hX hC in_X4 rfl (cin rfl) rfl 4 (by decide) (hX.2.2.1.F q253) (fun _ h => h) rfl dX0_bestIn_13 ?_
      refine fj_ge (tgt := 54) hx hb dX0_bestIn_16 (by decide) (fun z_3 => absurd (lt_ix (n := d 1) (show i1 < ix (d 1) by omega)) z_3) (fun _ => ?_)
      refine lv_aload_n hx hb dX0_bestIn_19 rfl (lv_at hl 0 rfl) ?_
      refine lv_iload hx hb dX0_bestIn_20 (lv_at hl 4 rfl) ?_
      refine lv_iload_n hx hb dX0_bestIn_22 rfl (lv_at hl 1 rfl) ?_
      refine fc_VW (As := [.int (nI i1), .int n]) (rest := []) hx hb hml hown hts hX hC (m_X0_chancesOf hw (nI i1) n (vp_in_nI (show i1 < 8 by have := vin_lt hw.many; omega) (by decide))) (lw_VW q896 q898 qs20 q108 q899) hdV_X0_chancesOf ⟨rfl, rfl⟩ ⟨Nat.le_of_ble_eq_true rfl, Nat.le_of_ble_eq_true rfl⟩ (fx_recv (g := 5) (i := 0) (ci := 1) (q := (RX0, TX0, 13)) hX hC (cin rfl) rfl rfl) hl.1 rfl (Nat.le_of_ble_eq_true rfl) ⟨Nat.zero_le _, Nat.zero_le _⟩ dX0_bestIn_23 (fun u_4 H locs hC => ?_)
      refine W.eq (g2 := F0 m 26 ls [.int (p_chances d (nI i1) (ix n))]) rfl ?_
      refine lv_istore (lv' := [(5, .int (p_chances d (nI i1) (ix n))), (0, .ref (G.ad 5 0)), (1, .int n), (2, .int ((p_bst (fun k => p_chances d (nI k) (ix n)) (-1) i1).1)), (3, .int ((p_bst (fun k => p_chances d (nI k) (ix n)) (-1) i1).2)), (4, .int (nI i1))]) hx hb dX0_bestIn_26 hl (by decide) rfl (fun ls hl => ?_)
      refine lv_iload hx hb dX0_bestIn_28 (lv_at hl 0 rfl) ?_
      refine lv_iload_n hx hb dX0_bestIn_30 rfl (lv_at hl 4 rfl) ?_
      refine fw_join (C := ((p_bst (fun k => p_chances d (nI k) (ix n)) (-1) i1).2) < (p_chances d (nI i1) (ix n))) (a := nI i1) (b := (p_bst (fun k => p_chances d (nI k) (ix n)) (-1) i1).1) (pcj := 40) (ls := ls) (rest := []) (fun ja jb => ?_) ?_
      · refine fj_le (tgt := 39) hx hb dX0_bestIn_31 (by decide) (fun c_5 => ?_) (fun c_5 => ?_)
        · refine lv_iload_n hx hb dX0_bestIn_39 rfl (lv_at hl 3 rfl) ?_
          exact jb c_5
        · refine lv_iload hx hb dX0_bestIn_34 (lv_at hl 5 rfl) ?_
          refine lv_goto (tgt := 40) hx hb dX0_bestIn_36 (by decide) ?_
          exact ja c_5
      refine lv_istore_n (lv' := [(2, .int (if ((p_bst (fun k => p_chances d (nI k) (ix n)) (-1) i1).2) < (p_chances d (nI i1) (ix n)) then nI i1 else (p_bst (fun k => p_chances d (nI k) (ix n)) (-1) i1).1)), (5, .int (p_chances d (nI i1) (ix n))), (0, .ref (G.ad 5 0)), (1, .int n), (3, .int ((p_bst (fun k => p_chances d (nI k) (ix n)) (-1) i1).2)), (4, .int (nI i1))]) hx hb dX0_bestIn_40 rfl hl (by decide) rfl (fun ls hl => ?_)
      refine lv_iload_n hx hb dX0_bestIn_41 rfl (lv_at hl 4 rfl) ?_
      refine lv_iload hx hb dX0_bestIn_42 (lv_at hl 1 rfl) ?_
      refine fw_max hx hb (hml.trans hl.1.symm) hown hts q939 (Nat.le_of_ble_eq_true rfl) (Nat.le_of_ble_eq_true rfl) (Nat.zero_le _) (Nat.zero_le _) q494 q125 q495 dX0_bestIn_44 ?_
      refine lv_istore_n (lv' := [(3, .int (mx ((p_bst (fun k => p_chances d (nI k) (ix n)) (-1) i1).2) (p_chances d (nI i1) (ix n)))), (2, .int (if ((p_bst (fun k => p_chances d (nI k) (ix n)) (-1) i1).2) < (p_chances d (nI i1) (ix n)) then nI i1 else (p_bst (fun k => p_chances d (nI k) (ix n)) (-1) i1).1)), (5, .int (p_chances d (nI i1) (ix n))), (0, .ref (G.ad 5 0)), (1, .int n), (4, .int (nI i1))]) hx hb dX0_bestIn_47 rfl hl (by decide) rfl (fun ls hl => ?_)
      refine lv_iinc (v := nI (i1 + 1)) (lv' := [(4, .int (nI (i1 + 1))), (3, .int (mx ((p_bst (fun k => p_chances d (nI k) (ix n)) (-1) i1).2) (p_chances d (nI i1) (ix n)))), (2, .int (if ((p_bst (fun k => p_chances d (nI k) (ix n)) (-1) i1).2) < (p_chances d (nI i1) (ix n)) then nI i1 else (p_bst (fun k => p_chances d (nI k) (ix n)) (-1) i1).1)), (5, .int (p_chances d (nI i1) (ix n))), (0, .ref (G.ad 5 0)), (1, .int n)]) hx hb dX0_bestIn_48 hl (k := 5) rfl (nI_1 _) (by decide) rfl (fun ls hl => ?_)
      refine lv_goto (tgt := 7) hx hb dX0_bestIn_51 (by decide) ?_
      exact ih1 (i1 + 1) (by omega) _ _ _ _ hC ls (lv_sub hl [4, 5, 2, 1, 0] rfl)
  exact L_1 (ix (d 1)) 0 (by omega) _ _ _ _ hC ls (lv_sub hl [3, 4, 2, 1, 0] rfl)
set_option maxRecDepth 100000 in
theorem m_X0_best {l : Launch} {G : Gc} {d kp as un to sc fd tp sh : Row} {sp : Nat → Option Nat} (hw : WF d) (n : Int32) : Cm l yX0_best (ws_ yX0_best cX0_best 2 (some .int)) ({ frames := 12, cells := 0, slots := 0, locals := 396 }) (cF G) [.ref (G.ad 5 0), .int n] (cct G (pg d kp as un to sc fd tp sh) sp) (fun u : Row × Row => some (.int ((s_best d fd n).1))) (fun u => cct G (pg d kp u.1 u.2 to sc ((s_best d fd n).2) tp sh) sp) := by
  refine Cm.start (by decide) (Nat.le_of_ble_eq_true rfl) ?_
  intro p e s m below meth c hf hX hC ls hl
  obtain ⟨hx, hb, hr, hml, hown, hts, hlocks⟩ := hf
  have hl : lv_has ls 2 [(0, .ref (G.ad 5 0)), (1, .int n)] := hl
  have hown : s.vm.findClass "OwlEars" = some m.cls := hown
  refine lv_iload_n hx hb dX0_best_0 rfl (lv_at hl 1 rfl) ?_
  refine lv_iconst (v := 0) hx hb dX0_best_1 rfl ?_
  refine lv_bipush (v := 100) hx hb dX0_best_2 rfl ?_
  refine fc_S (As := [.int n, .int 0, .int 100]) (rest := []) hx hb hml hown hts hX hC (m_X0_in n 0 100) (lw_S q469 q470 q108 q471) hdS_X0_in ⟨rfl, rfl⟩ ⟨Nat.le_of_ble_eq_true rfl, Nat.le_of_ble_eq_true rfl⟩ hl.1 rfl (Nat.le_of_ble_eq_true rfl) ⟨Nat.zero_le _, Nat.zero_le _⟩ dX0_best_4 (fun _ H locs hC => ?_)
  refine W.eq (g2 := F0 m 7 ls [.int (b2i (p_in n 0 100))]) rfl ?_
  refine fb_eq (tgt := 22) hx hb dX0_best_7 (by decide) (fun c_2 => ?_) (fun c_2 => ?_)
  · refine lv_aload_n hx hb dX0_best_22 rfl (lv_at hl 0 rfl) ?_
    refine lv_iconst (v := 0) hx hb dX0_best_23 rfl ?_
    refine fc_V (As := [.int 0]) (rest := []) hx hb hml hown hts hX hC (m_X0_finding 0 (vin_b rfl)) (lw_V q472 q474 qs2 q108 q475) hdV_X0_finding ⟨rfl, rfl⟩ ⟨Nat.le_of_ble_eq_true rfl, Nat.le_of_ble_eq_true rfl⟩ (fx_recv (g := 5) (i := 0) (ci := 1) (q := (RX0, TX0, 13)) hX hC (cin rfl) rfl rfl) hl.1 rfl (Nat.le_of_ble_eq_true rfl) ⟨Nat.zero_le _, Nat.zero_le _⟩ dX0_best_24 (fun _ H locs hC => ?_)
    refine W.eq (g2 := F0 m 27 ls [.int (-1000001)]) rfl ?_
    have hs : s_best d fd n = (((-1000001), p_find fd 0) : Int32 × Row) := by first | grind [s_best, p_none] | rfl
    exact fr_i hx hb hr hlocks hX hC ⟨as, un⟩ (congrArg (fun z => some (Value.int z)) (t2_1 hs)) (congrArg (fun z => cct G (pg d kp as un to sc z tp sh) sp) (t2_2 hs)).symm dX0_best_27
  · refine lv_aload_n hx hb dX0_best_10 rfl (lv_at hl 0 rfl) ?_
    refine lv_aload_n hx hb dX0_best_11 rfl (lv_at hl 0 rfl) ?_
    refine lv_iload_n hx hb dX0_best_12 rfl (lv_at hl 1 rfl) ?_
    refine fc_V (As := [.int n]) (rest := [.ref (G.ad 5 0)]) hx hb hml hown hts hX hC (m_X0_bestIn hw n) (lw_V q935 q937 qs23 q108 q938) hdV_X0_bestIn ⟨rfl, rfl⟩ ⟨Nat.le_of_ble_eq_true rfl, Nat.le_of_ble_eq_true rfl⟩ (fx_recv (g := 5) (i := 0) (ci := 1) (q := (RX0, TX0, 13)) hX hC (cin rfl) rfl rfl) hl.1 rfl (Nat.le_of_ble_eq_true rfl) ⟨Nat.zero_le _, Nat.zero_le _⟩ dX0_best_13 (fun u_4 H locs hC => ?_)
    refine W.eq (g2 := F0 m 16 ls [.int (p_best d n), .ref (G.ad 5 0)]) rfl ?_
    refine fc_V (As := [.int (p_best d n)]) (rest := []) hx hb hml hown hts hX hC (m_X0_orNone (p_best d n)) (lw_V q868 q870 qs17 q108 q871) hdV_X0_orNone ⟨rfl, rfl⟩ ⟨Nat.le_of_ble_eq_true rfl, Nat.le_of_ble_eq_true rfl⟩ (fx_recv (g := 5) (i := 0) (ci := 1) (q := (RX0, TX0, 13)) hX hC (cin rfl) rfl rfl) hl.1 rfl (Nat.le_of_ble_eq_true rfl) ⟨Nat.zero_le _, Nat.zero_le _⟩ dX0_best_16 (fun _ H locs hC => ?_)
    refine W.eq (g2 := F0 m 19 ls [.int (if (p_best d n) = -1 then -1000004 else (p_best d n))]) rfl ?_
    refine lv_goto (tgt := 27) hx hb dX0_best_19 (by decide) ?_
    have hs : s_best d fd n = ((if (p_best d n) = -1 then -1000004 else (p_best d n), if (p_best d n) = -1 then p_find fd 3 else fd) : Int32 × Row) := by first | grind [s_best, p_none] | rfl
    exact fr_i hx hb hr hlocks hX hC ⟨u_4.1, u_4.2⟩ (congrArg (fun z => some (Value.int z)) (t2_1 hs)) (congrArg (fun z => cct G (pg d kp u_4.1 u_4.2 to sc z tp sh) sp) (t2_2 hs)).symm dX0_best_27
