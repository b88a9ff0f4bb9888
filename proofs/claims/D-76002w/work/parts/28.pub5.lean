theorem hdV_X0_allThatHave : yX0_allThatHave.cls = RX0 ∧ yX0_allThatHave.cls ≠ "java/lang/invoke/MethodHandle" ∧ yX0_allThatHave.cls ≠ "java/lang/invoke/VarHandle" ∧ (parseMethodDescriptor yX0_allThatHave.desc).map (fun d => d.parameters.length) = some 3 := by decide +kernel
set_option maxRecDepth 100000 in
theorem m_X0_allThatHave_0 {l : Launch} {G : Gc} {d kp as un to sc fd tp sh : Row} {sp : Nat → Option Nat} (hw : WF d) (k : Int32) (hk : vp_in k 8) : Cm l yX0_allThatHave (ws_ yX0_allThatHave cX0_allThatHave 8 (some .long)) ({ frames := 10, cells := 0, slots := 0, locals := 346 }) (cF G) [.ref (G.ad 5 0), .int k, .int 0, .int 7] (cct G (pg d kp as un to sc fd tp sh) sp) (fun u : Row => some (.long (p_all d k (92 + 4 * ix k) 7))) (fun u => cct G (pg d kp u un to sc fd tp sh) sp) := by
  refine Cm.start (by decide) (Nat.le_of_ble_eq_true rfl) ?_
  intro p e s m below meth c hf hX hC ls hl
  obtain ⟨hx, hb, hr, hml, hown, hts, hlocks⟩ := hf
  have hl : lv_has ls 8 [(0, .ref (G.ad 5 0)), (1, .int k), (2, .int 0), (3, .int 7)] := hl
  have hown : s.vm.findClass "OwlEars" = some m.cls := hown
  refine lv_aload_n hx hb dX0_allThatHave_0 rfl (lv_at hl 0 rfl) ?_
  refine fg_get (C := RX0) (T := TX0) (N := 13) (ci := 1) (g := 5) (i := 0) (v := .ref (G.ad 0 0)) hx hb hown hts hX hC in_X0 rfl (cin rfl) rfl 3 (by decide) q425 (fun _ h => h) rfl dX0_allThatHave_1 ?_
  refine fg_getN (C := RX4) (T := TX4) (N := 9) (ci := 0) (g := 0) (i := 0) (v := .ref (G.ad 0 5)) hx hb hown hts hX hC in_X4 rfl (cin rfl) rfl 5 (by decide) (hX.2.2.1.F q257) (fun _ h => h) rfl dX0_allThatHave_4 ?_
  refine lv_iload_n hx hb dX0_allThatHave_7 rfl (lv_at hl 2 rfl) ?_
  refine fg_ald (g := 0) (i := 5) (t0 := 1) (ty := .array .int) (v := .ref (G.ad 0 6)) hx hb hX hC (cin rfl) rfl rfl rfl (vin_b rfl) rfl dX0_allThatHave_8 ?_
  refine lv_iload_n hx hb dX0_allThatHave_9 rfl (lv_at hl 1 rfl) ?_
  refine fg_iald (g := 0) (i := 6) (t0 := 0) (v := d (92 + 4 * (ix k))) hx hb hX hC (cin rfl) rfl rfl hk rfl dX0_allThatHave_10 ?_
  refine lv_istore (lv' := [(4, .int (d (92 + 4 * (ix k)))), (0, .ref (G.ad 5 0)), (1, .int k), (2, .int 0), (3, .int 7)]) hx hb dX0_allThatHave_11 hl (by decide) rfl (fun ls hl => ?_)
  refine lv_lconst (v := 0) hx hb dX0_allThatHave_13 rfl ?_
  refine lv_lstore (lv' := [(5, .long 0), (4, .int (d (92 + 4 * (ix k)))), (0, .ref (G.ad 5 0)), (1, .int k), (2, .int 0), (3, .int 7)]) hx hb dX0_allThatHave_14 hl (by decide) rfl (fun ls hl => ?_)
  refine lv_iconst (v := 0) hx hb dX0_allThatHave_16 rfl ?_
  refine lv_istore (lv' := [(7, .int 0), (5, .long 0), (4, .int (d (92 + 4 * (ix k)))), (0, .ref (G.ad 5 0)), (1, .int k), (2, .int 0), (3, .int 7)]) hx hb dX0_allThatHave_17 hl (by decide) rfl (fun ls hl => ?_)
  have L_1 : ∀ (k1 i1 : Nat), i1 + k1 = 7 → ∀ (as1 : Row) (x1 : Int32) (H : Heap) (locs : List Loc), fC (cF G) (cct G (pg (upd d (92 + 4 * (ix k)) x1) kp as1 un to sc fd tp sh) sp) s.heap H locs → ∀ ls : Array Slot, lv_has ls 8 [(0, .ref (G.ad 5 0)), (1, .int k), (2, .int 0), (3, .int 7), (4, .int (d (92 + 4 * (ix k)))), (5, .long (p_orl (fun v => if p_has (upd d (92 + 4 * (ix k)) (nI v)) k then 1 <<< ((nI v).toInt64 &&& 63) else 0) i1)), (7, .int (nI i1))] → WG p l e ({ frames := 10, cells := 0, slots := 0, locals := 346 }) s m (([.ref (G.ad 5 0), .int k, .int 0, .int 7] : List Value).toArray) below meth c H locs (cF G) (fun u : Row => some (.long (p_all d k (92 + 4 * ix k) 7))) (fun u => cct G (pg d kp u un to sc fd tp sh) sp) (F0 m 19 ls []) := by
    intro k1
    induction k1 with
    | zero =>
      intro i1 hi1 as1 x1 H locs hC ls hl
      obtain rfl : i1 = 7 := by omega
      refine lv_iload hx hb dX0_allThatHave_19 (lv_at hl 6 rfl) ?_
      refine lv_iload_n hx hb dX0_allThatHave_21 rfl (lv_at hl 3 rfl) ?_
      refine fj_ge (tgt := 65) hx hb dX0_allThatHave_22 (by decide) (fun _ => ?_) (fun z_2 => absurd z_2 (nlt_ix (n := 7)))
      refine lv_aload_n hx hb dX0_allThatHave_65 rfl (lv_at hl 0 rfl) ?_
      refine fg_get (C := RX0) (T := TX0) (N := 13) (ci := 1) (g := 5) (i := 0) (v := .ref (G.ad 0 0)) hx hb hown hts hX hC in_X0 rfl (cin rfl) rfl 3 (by decide) q425 (fun _ h => h) rfl dX0_allThatHave_66 ?_
      refine fg_getN (C := RX4) (T := TX4) (N := 9) (ci := 0) (g := 0) (i := 0) (v := .ref (G.ad 0 5)) hx hb hown hts hX hC in_X4 rfl (cin rfl) rfl 5 (by decide) (hX.2.2.1.F q257) (fun _ h => h) rfl dX0_allThatHave_69 ?_
      refine lv_iload_n hx hb dX0_allThatHave_72 rfl (lv_at hl 2 rfl) ?_
      refine fg_ald (g := 0) (i := 5) (t0 := 1) (ty := .array .int) (v := .ref (G.ad 0 6)) hx hb hX hC (cin rfl) rfl rfl rfl (vin_b rfl) rfl dX0_allThatHave_73 ?_
      refine lv_iload_n hx hb dX0_allThatHave_74 rfl (lv_at hl 1 rfl) ?_
      refine lv_iload hx hb dX0_allThatHave_75 (lv_at hl 4 rfl) ?_
      refine fg_iast (g := 0) (i := 6) (t0 := 0) hx hb hX hC (cin rfl) rfl rfl hk (cct G (pg (upd (upd d (92 + 4 * (ix k)) x1) (92 + 4 * (ix k)) (d (92 + 4 * (ix k)))) kp as1 un to sc fd tp sh) sp) (cs_r0 (k := ix k)) dX0_allThatHave_77 (fun H locs hC => ?_)
      refine lv_lload hx hb dX0_allThatHave_78 (lv_at hl 5 rfl) ?_
      exact fr_l hx hb hr hlocks hX hC as1 (congrArg (fun z => some (Value.long z)) (rfl)) (congrArg (fun z => cct G (pg z kp as1 un to sc fd tp sh) sp) (upd_back d (92 + 4 * (ix k)) _)) dX0_allThatHave_80
    | succ k1 ih1 =>
      intro i1 hi1 as1 x1 H locs hC ls hl
      refine lv_iload hx hb dX0_allThatHave_19 (lv_at hl 6 rfl) ?_
      refine lv_iload_n hx hb dX0_allThatHave_21 rfl (lv_at hl 3 rfl) ?_
      refine fj_ge (tgt := 65) hx hb dX0_allThatHave_22 (by decide) (fun z_3 => absurd (lt_ix (n := 7) (show i1 < 7 by omega)) z_3) (fun _ => ?_)
      refine lv_aload_n hx hb dX0_allThatHave_25 rfl (lv_at hl 0 rfl) ?_
      refine fg_get (C := RX0) (T := TX0) (N := 13) (ci := 1) (g := 5) (i := 0) (v := .ref (G.ad 0 0)) hx hb hown hts hX hC in_X0 rfl (cin rfl) rfl 3 (by decide) q425 (fun _ h => h) rfl dX0_allThatHave_26 ?_
      refine fg_getN (C := RX4) (T := TX4) (N := 9) (ci := 0) (g := 0) (i := 0) (v := .ref (G.ad 0 5)) hx hb hown hts hX hC in_X4 rfl (cin rfl) rfl 5 (by decide) (hX.2.2.1.F q257) (fun _ h => h) rfl dX0_allThatHave_29 ?_
      refine lv_iload_n hx hb dX0_allThatHave_32 rfl (lv_at hl 2 rfl) ?_
      refine fg_ald (g := 0) (i := 5) (t0 := 1) (ty := .array .int) (v := .ref (G.ad 0 6)) hx hb hX hC (cin rfl) rfl rfl rfl (vin_b rfl) rfl dX0_allThatHave_33 ?_
      refine lv_iload_n hx hb dX0_allThatHave_34 rfl (lv_at hl 1 rfl) ?_
      refine lv_iload hx hb dX0_allThatHave_35 (lv_at hl 6 rfl) ?_
      refine fg_iast (g := 0) (i := 6) (t0 := 0) hx hb hX hC (cin rfl) rfl rfl hk (cct G (pg (upd (upd d (92 + 4 * (ix k)) x1) (92 + 4 * (ix k)) (nI i1)) kp as1 un to sc fd tp sh) sp) (cs_r0 (k := ix k)) dX0_allThatHave_37 (fun H locs hC => ?_)
      have hC := (congrArg (fun z => fC (cF G) (cct G (pg z kp as1 un to sc fd tp sh) sp) s.heap _ _) (upd_uu d (92 + 4 * (ix k)) x1 (nI i1))).mp hC
      refine lv_lload hx hb dX0_allThatHave_38 (lv_at hl 5 rfl) ?_
      refine lv_aload_n hx hb dX0_allThatHave_40 rfl (lv_at hl 0 rfl) ?_
      refine lv_iload_n hx hb dX0_allThatHave_41 rfl (lv_at hl 1 rfl) ?_
      refine fc_VW (As := [.int k]) (rest := [.long (p_orl (fun v => if p_has (upd d (92 + 4 * (ix k)) (nI v)) k then 1 <<< ((nI v).toInt64 &&& 63) else 0) i1)]) hx hb hml hown hts hX hC (m_X0_hasIt (hw.put92 (show i1 < 7 by omega)) k hk) (lw_VW q696 q698 qs7 q108 q699) hdV_X0_hasIt ⟨rfl, rfl⟩ ⟨Nat.le_of_ble_eq_true rfl, Nat.le_of_ble_eq_true rfl⟩ (fx_recv (g := 5) (i := 0) (ci := 1) (q := (RX0, TX0, 13)) hX hC (cin rfl) rfl rfl) hl.1 rfl (Nat.le_of_ble_eq_true rfl) ⟨Nat.zero_le _, Nat.zero_le _⟩ dX0_allThatHave_42 (fun _ H locs hC => ?_)
      refine W.eq (g2 := F0 m 45 ls [.int (b2i (p_has (upd d (92 + 4 * (ix k)) (nI i1)) k)), .long (p_orl (fun v => if p_has (upd d (92 + 4 * (ix k)) (nI v)) k then 1 <<< ((nI v).toInt64 &&& 63) else 0) i1)]) rfl ?_
      refine fw_joinl (C := p_has (upd d (92 + 4 * (ix k)) (nI i1)) k) (a := 1 <<< ((nI i1).toInt64 &&& 63)) (b := 0) (pcj := 56) (ls := ls) (rest := [.long (p_orl (fun v => if p_has (upd d (92 + 4 * (ix k)) (nI v)) k then 1 <<< ((nI v).toInt64 &&& 63) else 0) i1)]) (fun ja jb => ?_) ?_
      · refine fb_eq (tgt := 55) hx hb dX0_allThatHave_45 (by decide) (fun c_5 => ?_) (fun c_5 => ?_)
        · refine lv_lconst (v := 0) hx hb dX0_allThatHave_55 rfl ?_
          exact jb c_5
        · refine lv_lconst (v := 1) hx hb dX0_allThatHave_48 rfl ?_
          refine lv_iload hx hb dX0_allThatHave_49 (lv_at hl 6 rfl) ?_
          refine lv_lshl (v := 1 <<< ((nI i1).toInt64 &&& 63)) hx hb dX0_allThatHave_51 rfl ?_
          refine lv_goto (tgt := 56) hx hb dX0_allThatHave_52 (by decide) ?_
          exact ja c_5
      refine lv_lor hx hb dX0_allThatHave_56 ?_
      refine lv_lstore (lv' := [(5, .long ((p_orl (fun v => if p_has (upd d (92 + 4 * (ix k)) (nI v)) k then 1 <<< ((nI v).toInt64 &&& 63) else 0) i1) ||| (if p_has (upd d (92 + 4 * (ix k)) (nI i1)) k then 1 <<< ((nI i1).toInt64 &&& 63) else 0))), (0, .ref (G.ad 5 0)), (1, .int k), (2, .int 0), (3, .int 7), (4, .int (d (92 + 4 * (ix k)))), (7, .int (nI i1))]) hx hb dX0_allThatHave_57 hl (by decide) rfl (fun ls hl => ?_)
      refine lv_iinc (v := nI (i1 + 1)) (lv' := [(7, .int (nI (i1 + 1))), (5, .long ((p_orl (fun v => if p_has (upd d (92 + 4 * (ix k)) (nI v)) k then 1 <<< ((nI v).toInt64 &&& 63) else 0) i1) ||| (if p_has (upd d (92 + 4 * (ix k)) (nI i1)) k then 1 <<< ((nI i1).toInt64 &&& 63) else 0))), (0, .ref (G.ad 5 0)), (1, .int k), (2, .int 0), (3, .int 7), (4, .int (d (92 + 4 * (ix k))))]) hx hb dX0_allThatHave_59 hl (k := 6) rfl (nI_1 _) (by decide) rfl (fun ls hl => ?_)
      refine lv_goto (tgt := 19) hx hb dX0_allThatHave_62 (by decide) ?_
      exact ih1 (i1 + 1) (by omega) _ _ _ _ hC ls (lv_sub hl [2, 3, 4, 5, 6, 1, 0] rfl)
  have hC := (congrArg (fun z => fC (cF G) (cct G (pg z kp as un to sc fd tp sh) sp) s.heap _ _) (upd_id d (92 + 4 * (ix k)))).mp hC
  exact L_1 7 0 (by omega) _ _ _ _ hC ls (lv_sub hl [3, 4, 5, 6, 2, 1, 0] rfl)
set_option maxRecDepth 100000 in
theorem m_X0_allThatHave_1 {l : Launch} {G : Gc} {d kp as un to sc fd tp sh : Row} {sp : Nat → Option Nat} (hw : WF d) (k : Int32) (hk : vp_in k 8) : Cm l yX0_allThatHave (ws_ yX0_allThatHave cX0_allThatHave 8 (some .long)) ({ frames := 10, cells := 0, slots := 0, locals := 346 }) (cF G) [.ref (G.ad 5 0), .int k, .int 1, .int 36] (cct G (pg d kp as un to sc fd tp sh) sp) (fun u : Row => some (.long (p_all d k (93 + 4 * ix k) 36))) (fun u => cct G (pg d kp u un to sc fd tp sh) sp) := by
  refine Cm.start (by decide) (Nat.le_of_ble_eq_true rfl) ?_
  intro p e s m below meth c hf hX hC ls hl
  obtain ⟨hx, hb, hr, hml, hown, hts, hlocks⟩ := hf
  have hl : lv_has ls 8 [(0, .ref (G.ad 5 0)), (1, .int k), (2, .int 1), (3, .int 36)] := hl
  have hown : s.vm.findClass "OwlEars" = some m.cls := hown
  refine lv_aload_n hx hb dX0_allThatHave_0 rfl (lv_at hl 0 rfl) ?_
  refine fg_get (C := RX0) (T := TX0) (N := 13) (ci := 1) (g := 5) (i := 0) (v := .ref (G.ad 0 0)) hx hb hown hts hX hC in_X0 rfl (cin rfl) rfl 3 (by decide) q425 (fun _ h => h) rfl dX0_allThatHave_1 ?_
  refine fg_getN (C := RX4) (T := TX4) (N := 9) (ci := 0) (g := 0) (i := 0) (v := .ref (G.ad 0 5)) hx hb hown hts hX hC in_X4 rfl (cin rfl) rfl 5 (by decide) (hX.2.2.1.F q257) (fun _ h => h) rfl dX0_allThatHave_4 ?_
  refine lv_iload_n hx hb dX0_allThatHave_7 rfl (lv_at hl 2 rfl) ?_
  refine fg_ald (g := 0) (i := 5) (t0 := 1) (ty := .array .int) (v := .ref (G.ad 0 7)) hx hb hX hC (cin rfl) rfl rfl rfl (vin_b rfl) rfl dX0_allThatHave_8 ?_
  refine lv_iload_n hx hb dX0_allThatHave_9 rfl (lv_at hl 1 rfl) ?_
  refine fg_iald (g := 0) (i := 7) (t0 := 0) (v := d (93 + 4 * (ix k))) hx hb hX hC (cin rfl) rfl rfl hk rfl dX0_allThatHave_10 ?_
  refine lv_istore (lv' := [(4, .int (d (93 + 4 * (ix k)))), (0, .ref (G.ad 5 0)), (1, .int k), (2, .int 1), (3, .int 36)]) hx hb dX0_allThatHave_11 hl (by decide) rfl (fun ls hl => ?_)
  refine lv_lconst (v := 0) hx hb dX0_allThatHave_13 rfl ?_
  refine lv_lstore (lv' := [(5, .long 0), (4, .int (d (93 + 4 * (ix k)))), (0, .ref (G.ad 5 0)), (1, .int k), (2, .int 1), (3, .int 36)]) hx hb dX0_allThatHave_14 hl (by decide) rfl (fun ls hl => ?_)
  refine lv_iconst (v := 0) hx hb dX0_allThatHave_16 rfl ?_
  refine lv_istore (lv' := [(7, .int 0), (5, .long 0), (4, .int (d (93 + 4 * (ix k)))), (0, .ref (G.ad 5 0)), (1, .int k), (2, .int 1), (3, .int 36)]) hx hb dX0_allThatHave_17 hl (by decide) rfl (fun ls hl => ?_)
  have L_1 : ∀ (k1 i1 : Nat), i1 + k1 = 36 → ∀ (as1 : Row) (x1 : Int32) (H : Heap) (locs : List Loc), fC (cF G) (cct G (pg (upd d (93 + 4 * (ix k)) x1) kp as1 un to sc fd tp sh) sp) s.heap H locs → ∀ ls : Array Slot, lv_has ls 8 [(0, .ref (G.ad 5 0)), (1, .int k), (2, .int 1), (3, .int 36), (4, .int (d (93 + 4 * (ix k)))), (5, .long (p_orl (fun v => if p_has (upd d (93 + 4 * (ix k)) (nI v)) k then 1 <<< ((nI v).toInt64 &&& 63) else 0) i1)), (7, .int (nI i1))] → WG p l e ({ frames := 10, cells := 0, slots := 0, locals := 346 }) s m (([.ref (G.ad 5 0), .int k, .int 1, .int 36] : List Value).toArray) below meth c H locs (cF G) (fun u : Row => some (.long (p_all d k (93 + 4 * ix k) 36))) (fun u => cct G (pg d kp u un to sc fd tp sh) sp) (F0 m 19 ls []) := by
    intro k1
    induction k1 with
    | zero =>
      intro i1 hi1 as1 x1 H locs hC ls hl
      obtain rfl : i1 = 36 := by omega
      refine lv_iload hx hb dX0_allThatHave_19 (lv_at hl 6 rfl) ?_
      refine lv_iload_n hx hb dX0_allThatHave_21 rfl (lv_at hl 3 rfl) ?_
      refine fj_ge (tgt := 65) hx hb dX0_allThatHave_22 (by decide) (fun _ => ?_) (fun z_2 => absurd z_2 (nlt_ix (n := 36)))
      refine lv_aload_n hx hb dX0_allThatHave_65 rfl (lv_at hl 0 rfl) ?_
      refine fg_get (C := RX0) (T := TX0) (N := 13) (ci := 1) (g := 5) (i := 0) (v := .ref (G.ad 0 0)) hx hb hown hts hX hC in_X0 rfl (cin rfl) rfl 3 (by decide) q425 (fun _ h => h) rfl dX0_allThatHave_66 ?_
      refine fg_getN (C := RX4) (T := TX4) (N := 9) (ci := 0) (g := 0) (i := 0) (v := .ref (G.ad 0 5)) hx hb hown hts hX hC in_X4 rfl (cin rfl) rfl 5 (by decide) (hX.2.2.1.F q257) (fun _ h => h) rfl dX0_allThatHave_69 ?_
      refine lv_iload_n hx hb dX0_allThatHave_72 rfl (lv_at hl 2 rfl) ?_
      refine fg_ald (g := 0) (i := 5) (t0 := 1) (ty := .array .int) (v := .ref (G.ad 0 7)) hx hb hX hC (cin rfl) rfl rfl rfl (vin_b rfl) rfl dX0_allThatHave_73 ?_
      refine lv_iload_n hx hb dX0_allThatHave_74 rfl (lv_at hl 1 rfl) ?_
      refine lv_iload hx hb dX0_allThatHave_75 (lv_at hl 4 rfl) ?_
      refine fg_iast (g := 0) (i := 7) (t0 := 0) hx hb hX hC (cin rfl) rfl rfl hk (cct G (pg (upd (upd d (93 + 4 * (ix k)) x1) (93 + 4 * (ix k)) (d (93 + 4 * (ix k)))) kp as1 un to sc fd tp sh) sp) (cs_r1 (k := ix k)) dX0_allThatHave_77 (fun H locs hC => ?_)
      refine lv_lload hx hb dX0_allThatHave_78 (lv_at hl 5 rfl) ?_
      exact fr_l hx hb hr hlocks hX hC as1 (congrArg (fun z => some (Value.long z)) (rfl)) (congrArg (fun z => cct G (pg z kp as1 un to sc fd tp sh) sp) (upd_back d (93 + 4 * (ix k)) _)) dX0_allThatHave_80
    | succ k1 ih1 =>
      intro i1 hi1 as1 x1 H locs hC ls hl
      refine lv_iload hx hb dX0_allThatHave_19 (lv_at hl 6 rfl) ?_
      refine lv_iload_n hx hb dX0_allThatHave_21 rfl (lv_at hl 3 rfl) ?_
      refine fj_ge (tgt := 65) hx hb dX0_allThatHave_22 (by decide) (fun z_3 => absurd (lt_ix (n := 36) (show i1 < 36 by omega)) z_3) (fun _ => ?_)
      refine lv_aload_n hx hb dX0_allThatHave_25 rfl (lv_at hl 0 rfl) ?_
      refine fg_get (C := RX0) (T := TX0) (N := 13) (ci := 1) (g := 5) (i := 0) (v := .ref (G.ad 0 0)) hx hb hown hts hX hC in_X0 rfl (cin rfl) rfl 3 (by decide) q425 (fun _ h => h) rfl dX0_allThatHave_26 ?_
      refine fg_getN (C := RX4) (T := TX4) (N := 9) (ci := 0) (g := 0) (i := 0) (v := .ref (G.ad 0 5)) hx hb hown hts hX hC in_X4 rfl (cin rfl) rfl 5 (by decide) (hX.2.2.1.F q257) (fun _ h => h) rfl dX0_allThatHave_29 ?_
      refine lv_iload_n hx hb dX0_allThatHave_32 rfl (lv_at hl 2 rfl) ?_
      refine fg_ald (g := 0) (i := 5) (t0 := 1) (ty := .array .int) (v := .ref (G.ad 0 7)) hx hb hX hC (cin rfl) rfl rfl rfl (vin_b rfl) rfl dX0_allThatHave_33 ?_
      refine lv_iload_n hx hb dX0_allThatHave_34 rfl (lv_at hl 1 rfl) ?_
      refine lv_iload hx hb dX0_allThatHave_35 (lv_at hl 6 rfl) ?_
      refine fg_iast (g := 0) (i := 7) (t0 := 0) hx hb hX hC (cin rfl) rfl rfl hk (cct G (pg (upd (upd d (93 + 4 * (ix k)) x1) (93 + 4 * (ix k)) (nI i1)) kp as1 un to sc fd tp sh) sp) (cs_r1 (k := ix k)) dX0_allThatHave_37 (fun H locs hC => ?_)
      have hC := (congrArg (fun z => fC (cF G) (cct G (pg z kp as1 un to sc fd tp sh) sp) s.heap _ _) (upd_uu d (93 + 4 * (ix k)) x1 (nI i1))).mp hC
      refine lv_lload hx hb dX0_allThatHave_38 (lv_at hl 5 rfl) ?_
      refine lv_aload_n hx hb dX0_allThatHave_40 rfl (lv_at hl 0 rfl) ?_
      refine lv_iload_n hx hb dX0_allThatHave_41 rfl (lv_at hl 1 rfl) ?_
      refine fc_VW (As := [.int k]) (rest := [.long (p_orl (fun v => if p_has (upd d (93 + 4 * (ix k)) (nI v)) k then 1 <<< ((nI v).toInt64 &&& 63) else 0) i1)]) hx hb hml hown hts hX hC (m_X0_hasIt (hw.putS (by omega) (by omega)) k hk) (lw_VW q696 q698 qs7 q108 q699) hdV_X0_hasIt ⟨rfl, rfl⟩ ⟨Nat.le_of_ble_eq_true rfl, Nat.le_of_ble_eq_true rfl⟩ (fx_recv (g := 5) (i := 0) (ci := 1) (q := (RX0, TX0, 13)) hX hC (cin rfl) rfl rfl) hl.1 rfl (Nat.le_of_ble_eq_true rfl) ⟨Nat.zero_le _, Nat.zero_le _⟩ dX0_allThatHave_42 (fun _ H locs hC => ?_)
      refine W.eq (g2 := F0 m 45 ls [.int (b2i (p_has (upd d (93 + 4 * (ix k)) (nI i1)) k)), .long (p_orl (fun v => if p_has (upd d (93 + 4 * (ix k)) (nI v)) k then 1 <<< ((nI v).toInt64 &&& 63) else 0) i1)]) rfl ?_
      refine fw_joinl (C := p_has (upd d (93 + 4 * (ix k)) (nI i1)) k) (a := 1 <<< ((nI i1).toInt64 &&& 63)) (b := 0) (pcj := 56) (ls := ls) (rest := [.long (p_orl (fun v => if p_has (upd d (93 + 4 * (ix k)) (nI v)) k then 1 <<< ((nI v).toInt64 &&& 63) else 0) i1)]) (fun ja jb => ?_) ?_
      · refine fb_eq (tgt := 55) hx hb dX0_allThatHave_45 (by decide) (fun c_5 => ?_) (fun c_5 => ?_)
        · refine lv_lconst (v := 0) hx hb dX0_allThatHave_55 rfl ?_
          exact jb c_5
        · refine lv_lconst (v := 1) hx hb dX0_allThatHave_48 rfl ?_
          refine lv_iload hx hb dX0_allThatHave_49 (lv_at hl 6 rfl) ?_
          refine lv_lshl (v := 1 <<< ((nI i1).toInt64 &&& 63)) hx hb dX0_allThatHave_51 rfl ?_
          refine lv_goto (tgt := 56) hx hb dX0_allThatHave_52 (by decide) ?_
          exact ja c_5
      refine lv_lor hx hb dX0_allThatHave_56 ?_
      refine lv_lstore (lv' := [(5, .long ((p_orl (fun v => if p_has (upd d (93 + 4 * (ix k)) (nI v)) k then 1 <<< ((nI v).toInt64 &&& 63) else 0) i1) ||| (if p_has (upd d (93 + 4 * (ix k)) (nI i1)) k then 1 <<< ((nI i1).toInt64 &&& 63) else 0))), (0, .ref (G.ad 5 0)), (1, .int k), (2, .int 1), (3, .int 36), (4, .int (d (93 + 4 * (ix k)))), (7, .int (nI i1))]) hx hb dX0_allThatHave_57 hl (by decide) rfl (fun ls hl => ?_)
      refine lv_iinc (v := nI (i1 + 1)) (lv' := [(7, .int (nI (i1 + 1))), (5, .long ((p_orl (fun v => if p_has (upd d (93 + 4 * (ix k)) (nI v)) k then 1 <<< ((nI v).toInt64 &&& 63) else 0) i1) ||| (if p_has (upd d (93 + 4 * (ix k)) (nI i1)) k then 1 <<< ((nI i1).toInt64 &&& 63) else 0))), (0, .ref (G.ad 5 0)), (1, .int k), (2, .int 1), (3, .int 36), (4, .int (d (93 + 4 * (ix k))))]) hx hb dX0_allThatHave_59 hl (k := 6) rfl (nI_1 _) (by decide) rfl (fun ls hl => ?_)
      refine lv_goto (tgt := 19) hx hb dX0_allThatHave_62 (by decide) ?_
      exact ih1 (i1 + 1) (by omega) _ _ _ _ hC ls (lv_sub hl [2, 3, 4, 5, 6, 1, 0] rfl)
  have hC := (congrArg (fun z => fC (cF G) (cct G (pg z kp as un to sc fd tp sh) sp) s.heap _ _) (upd_id d (93 + 4 * (ix k)))).mp hC
  exact L_1 36 0 (by omega) _ _ _ _ hC ls (lv_sub hl [3, 4, 5, 6, 2, 1, 0] rfl)
set_option maxRecDepth 100000 in
theorem m_X0_allThatHave_2 {l : Launch} {G : Gc} {d kp as un to sc fd tp sh : Row} {sp : Nat → Option Nat} (hw : WF d) (k : Int32) (hk : vp_in k 8) : Cm l yX0_allThatHave (ws_ yX0_allThatHave cX0_allThatHave 8 (some .long)) ({ frames := 10, cells := 0, slots := 0, locals := 346 }) (cF G) [.ref (G.ad 5 0), .int k, .int 2, .int 10] (cct G (pg d kp as un to sc fd tp sh) sp) (fun u : Row => some (.long (p_all d k (94 + 4 * ix k) 10))) (fun u => cct G (pg d kp u un to sc fd tp sh) sp) := by
  refine Cm.start (by decide) (Nat.le_of_ble_eq_true rfl) ?_
  intro p e s m below meth c hf hX hC ls hl
  obtain ⟨hx, hb, hr, hml, hown, hts, hlocks⟩ := hf
  have hl : lv_has ls 8 [(0, .ref (G.ad 5 0)), (1, .int k), (2, .int 2), (3, .int 10)] := hl
  have hown : s.vm.findClass "OwlEars" = some m.cls := hown
  refine lv_aload_n hx hb dX0_allThatHave_0 rfl (lv_at hl 0 rfl) ?_
  refine fg_get (C := RX0) (T := TX0) (N := 13) (ci := 1) (g := 5) (i := 0) (v := .ref (G.ad 0 0)) hx hb hown hts hX hC in_X0 rfl (cin rfl) rfl 3 (by decide) q425 (fun _ h => h) rfl dX0_allThatHave_1 ?_
  refine fg_getN (C := RX4) (T := TX4) (N := 9) (ci := 0) (g := 0) (i := 0) (v := .ref (G.ad 0 5)) hx hb hown hts hX hC in_X4 rfl (cin rfl) rfl 5 (by decide) (hX.2.2.1.F q257) (fun _ h => h) rfl dX0_allThatHave_4 ?_
  refine lv_iload_n hx hb dX0_allThatHave_7 rfl (lv_at hl 2 rfl) ?_
  refine fg_ald (g := 0) (i := 5) (t0 := 1) (ty := .array .int) (v := .ref (G.ad 0 8)) hx hb hX hC (cin rfl) rfl rfl rfl (vin_b rfl) rfl dX0_allThatHave_8 ?_
  refine lv_iload_n hx hb dX0_allThatHave_9 rfl (lv_at hl 1 rfl) ?_
  refine fg_iald (g := 0) (i := 8) (t0 := 0) (v := d (94 + 4 * (ix k))) hx hb hX hC (cin rfl) rfl rfl hk rfl dX0_allThatHave_10 ?_
  refine lv_istore (lv' := [(4, .int (d (94 + 4 * (ix k)))), (0, .ref (G.ad 5 0)), (1, .int k), (2, .int 2), (3, .int 10)]) hx hb dX0_allThatHave_11 hl (by decide) rfl (fun ls hl => ?_)
  refine lv_lconst (v := 0) hx hb dX0_allThatHave_13 rfl ?_
  refine lv_lstore (lv' := [(5, .long 0), (4, .int (d (94 + 4 * (ix k)))), (0, .ref (G.ad 5 0)), (1, .int k), (2, .int 2), (3, .int 10)]) hx hb dX0_allThatHave_14 hl (by decide) rfl (fun ls hl => ?_)
  refine lv_iconst (v := 0) hx hb dX0_allThatHave_16 rfl ?_
  refine lv_istore (lv' := [(7, .int 0), (5, .long 0), (4, .int (d (94 + 4 * (ix k)))), (0, .ref (G.ad 5 0)), (1, .int k), (2, .int 2), (3, .int 10)]) hx hb dX0_allThatHave_17 hl (by decide) rfl (fun ls hl => ?_)
  have L_1 : ∀ (k1 i1 : Nat), i1 + k1 = 10 → ∀ (as1 : Row) (x1 : Int32) (H : Heap) (locs : List Loc), fC (cF G) (cct G (pg (upd d (94 + 4 * (ix k)) x1) kp as1 un to sc fd tp sh) sp) s.heap H locs → ∀ ls : Array Slot, lv_has ls 8 [(0, .ref (G.ad 5 0)), (1, .int k), (2, .int 2), (3, .int 10), (4, .int (d (94 + 4 * (ix k)))), (5, .long (p_orl (fun v => if p_has (upd d (94 + 4 * (ix k)) (nI v)) k then 1 <<< ((nI v).toInt64 &&& 63) else 0) i1)), (7, .int (nI i1))] → WG p l e ({ frames := 10, cells := 0, slots := 0, locals := 346 }) s m (([.ref (G.ad 5 0), .int k, .int 2, .int 10] : List Value).toArray) below meth c H locs (cF G) (fun u : Row => some (.long (p_all d k (94 + 4 * ix k) 10))) (fun u => cct G (pg d kp u un to sc fd tp sh) sp) (F0 m 19 ls []) := by
    intro k1
    induction k1 with
    | zero =>
      intro i1 hi1 as1 x1 H locs hC ls hl
      obtain rfl : i1 = 10 := by omega
      refine lv_iload hx hb dX0_allThatHave_19 (lv_at hl 6 rfl) ?_
      refine lv_iload_n hx hb dX0_allThatHave_21 rfl (lv_at hl 3 rfl) ?_
      refine fj_ge (tgt := 65) hx hb dX0_allThatHave_22 (by decide) (fun _ => ?_) (fun z_2 => absurd z_2 (nlt_ix (n := 10)))
      refine lv_aload_n hx hb dX0_allThatHave_65 rfl (lv_at hl 0 rfl) ?_
      refine fg_get (C := RX0) (T := TX0) (N := 13) (ci := 1) (g := 5) (i := 0) (v := .ref (G.ad 0 0)) hx hb hown hts hX hC in_X0 rfl (cin rfl) rfl 3 (by decide) q425 (fun _ h => h) rfl dX0_allThatHave_66 ?_
      refine fg_getN (C := RX4) (T := TX4) (N := 9) (ci := 0) (g := 0) (i := 0) (v := .ref (G.ad 0 5)) hx hb hown hts hX hC in_X4 rfl (cin rfl) rfl 5 (by decide) (hX.2.2.1.F q257) (fun _ h => h) rfl dX0_allThatHave_69 ?_
      refine lv_iload_n hx hb dX0_allThatHave_72 rfl (lv_at hl 2 rfl) ?_
      refine fg_ald (g := 0) (i := 5) (t0 := 1) (ty := .array .int) (v := .ref (G.ad 0 8)) hx hb hX hC (cin rfl) rfl rfl rfl (vin_b rfl) rfl dX0_allThatHave_73 ?_
      refine lv_iload_n hx hb dX0_allThatHave_74 rfl (lv_at hl 1 rfl) ?_
      refine lv_iload hx hb dX0_allThatHave_75 (lv_at hl 4 rfl) ?_
      refine fg_iast (g := 0) (i := 8) (t0 := 0) hx hb hX hC (cin rfl) rfl rfl hk (cct G (pg (upd (upd d (94 + 4 * (ix k)) x1) (94 + 4 * (ix k)) (d (94 + 4 * (ix k)))) kp as1 un to sc fd tp sh) sp) (cs_r2 (k := ix k)) dX0_allThatHave_77 (fun H locs hC => ?_)
      refine lv_lload hx hb dX0_allThatHave_78 (lv_at hl 5 rfl) ?_
      exact fr_l hx hb hr hlocks hX hC as1 (congrArg (fun z => some (Value.long z)) (rfl)) (congrArg (fun z => cct G (pg z kp as1 un to sc fd tp sh) sp) (upd_back d (94 + 4 * (ix k)) _)) dX0_allThatHave_80
    | succ k1 ih1 =>
      intro i1 hi1 as1 x1 H locs hC ls hl
      refine lv_iload hx hb dX0_allThatHave_19 (lv_at hl 6 rfl) ?_
      refine lv_iload_n hx hb dX0_allThatHave_21 rfl (lv_at hl 3 rfl) ?_
      refine fj_ge (tgt := 65) hx hb dX0_allThatHave_22 (by decide) (fun z_3 => absurd (lt_ix (n := 10) (show i1 < 10 by omega)) z_3) (fun _ => ?_)
      refine lv_aload_n hx hb dX0_allThatHave_25 rfl (lv_at hl 0 rfl) ?_
      refine fg_get (C := RX0) (T := TX0) (N := 13) (ci := 1) (g := 5) (i := 0) (v := .ref (G.ad 0 0)) hx hb hown hts hX hC in_X0 rfl (cin rfl) rfl 3 (by decide) q425 (fun _ h => h) rfl dX0_allThatHave_26 ?_
      refine fg_getN (C := RX4) (T := TX4) (N := 9) (ci := 0) (g := 0) (i := 0) (v := .ref (G.ad 0 5)) hx hb hown hts hX hC in_X4 rfl (cin rfl) rfl 5 (by decide) (hX.2.2.1.F q257) (fun _ h => h) rfl dX0_allThatHave_29 ?_
      refine lv_iload_n hx hb dX0_allThatHave_32 rfl (lv_at hl 2 rfl) ?_
      refine fg_ald (g := 0) (i := 5) (t0 := 1) (ty := .array .int) (v := .ref (G.ad 0 8)) hx hb hX hC (cin rfl) rfl rfl rfl (vin_b rfl) rfl dX0_allThatHave_33 ?_
      refine lv_iload_n hx hb dX0_allThatHave_34 rfl (lv_at hl 1 rfl) ?_
      refine lv_iload hx hb dX0_allThatHave_35 (lv_at hl 6 rfl) ?_
      refine fg_iast (g := 0) (i := 8) (t0 := 0) hx hb hX hC (cin rfl) rfl rfl hk (cct G (pg (upd (upd d (94 + 4 * (ix k)) x1) (94 + 4 * (ix k)) (nI i1)) kp as1 un to sc fd tp sh) sp) (cs_r2 (k := ix k)) dX0_allThatHave_37 (fun H locs hC => ?_)
      have hC := (congrArg (fun z => fC (cF G) (cct G (pg z kp as1 un to sc fd tp sh) sp) s.heap _ _) (upd_uu d (94 + 4 * (ix k)) x1 (nI i1))).mp hC
      refine lv_lload hx hb dX0_allThatHave_38 (lv_at hl 5 rfl) ?_
      refine lv_aload_n hx hb dX0_allThatHave_40 rfl (lv_at hl 0 rfl) ?_
      refine lv_iload_n hx hb dX0_allThatHave_41 rfl (lv_at hl 1 rfl) ?_
      refine fc_VW (As := [.int k]) (rest := [.long (p_orl (fun v => if p_has (upd d (94 + 4 * (ix k)) (nI v)) k then 1 <<< ((nI v).toInt64 &&& 63) else 0) i1)]) hx hb hml hown hts hX hC (m_X0_hasIt (hw.putS (by omega) (by omega)) k hk) (lw_VW q696 q698 qs7 q108 q699) hdV_X0_hasIt ⟨rfl, rfl⟩ ⟨Nat.le_of_ble_eq_true rfl, Nat.le_of_ble_eq_true rfl⟩ (fx_recv (g := 5) (i := 0) (ci := 1) (q := (RX0, TX0, 13)) hX hC (cin rfl) rfl rfl) hl.1 rfl (Nat.le_of_ble_eq_true rfl) ⟨Nat.zero_le _, Nat.zero_le _⟩ dX0_allThatHave_42 (fun _ H locs hC => ?_)
      refine W.eq (g2 := F0 m 45 ls [.int (b2i (p_has (upd d (94 + 4 * (ix k)) (nI i1)) k)), .long (p_orl (fun v => if p_has (upd d (94 + 4 * (ix k)) (nI v)) k then 1 <<< ((nI v).toInt64 &&& 63) else 0) i1)]) rfl ?_
      refine fw_joinl (C := p_has (upd d (94 + 4 * (ix k)) (nI i1)) k) (a := 1 <<< ((nI i1).toInt64 &&& 63)) (b := 0) (pcj := 56) (ls := ls) (rest := [.long (p_orl (fun v => if p_has (upd d (94 + 4 * (ix k)) (nI v)) k then 1 <<< ((nI v).toInt64 &&& 63) else 0) i1)]) (fun ja jb => ?_) ?_
      · refine fb_eq (tgt := 55) hx hb dX0_allThatHave_45 (by decide) (fun c_5 => ?_) (fun c_5 => ?_)
        · refine lv_lconst (v := 0) hx hb dX0_allThatHave_55 rfl ?_
          exact jb c_5
        · refine lv_lconst (v := 1) hx hb dX0_allThatHave_48 rfl ?_
          refine lv_iload hx hb dX0_allThatHave_49 (lv_at hl 6 rfl) ?_
          refine lv_lshl (v := 1 <<< ((nI i1).toInt64 &&& 63)) hx hb dX0_allThatHave_51 rfl ?_
          refine lv_goto (tgt := 56) hx hb dX0_allThatHave_52 (by decide) ?_
          exact ja c_5
      refine lv_lor hx hb dX0_allThatHave_56 ?_
      refine lv_lstore (lv' := [(5, .long ((p_orl (fun v => if p_has (upd d (94 + 4 * (ix k)) (nI v)) k then 1 <<< ((nI v).toInt64 &&& 63) else 0) i1) ||| (if p_has (upd d (94 + 4 * (ix k)) (nI i1)) k then 1 <<< ((nI i1).toInt64 &&& 63) else 0))), (0, .ref (G.ad 5 0)), (1, .int k), (2, .int 2), (3, .int 10), (4, .int (d (94 + 4 * (ix k)))), (7, .int (nI i1))]) hx hb dX0_allThatHave_57 hl (by decide) rfl (fun ls hl => ?_)
      refine lv_iinc (v := nI (i1 + 1)) (lv' := [(7, .int (nI (i1 + 1))), (5, .long ((p_orl (fun v => if p_has (upd d (94 + 4 * (ix k)) (nI v)) k then 1 <<< ((nI v).toInt64 &&& 63) else 0) i1) ||| (if p_has (upd d (94 + 4 * (ix k)) (nI i1)) k then 1 <<< ((nI i1).toInt64 &&& 63) else 0))), (0, .ref (G.ad 5 0)), (1, .int k), (2, .int 2), (3, .int 10), (4, .int (d (94 + 4 * (ix k))))]) hx hb dX0_allThatHave_59 hl (k := 6) rfl (nI_1 _) (by decide) rfl (fun ls hl => ?_)
      refine lv_goto (tgt := 19) hx hb dX0_allThatHave_62 (by decide) ?_
      exact ih1 (i1 + 1) (by omega) _ _ _ _ hC ls (lv_sub hl [2, 3, 4, 5, 6, 1, 0] rfl)
  have hC := (congrArg (fun z => fC (cF G) (cct G (pg z kp as un to sc fd tp sh) sp) s.heap _ _) (upd_id d (94 + 4 * (ix k)))).mp hC
  exact L_1 10 0 (by omega) _ _ _ _ hC ls (lv_sub hl [3, 4, 5, 6, 2, 1, 0] rfl)
set_option maxRecDepth 100000 in
theorem m_X0_aims {l : Launch} {G : Gc} {d kp as un to sc fd tp sh : Row} {sp : Nat → Option Nat} (hw : WF d) (k : Int32) : Cm l yX0_aims (ws_ yX0_aims cX0_aims 2 (some .long)) ({ frames := 11, cells := 0, slots := 0, locals := 373 }) (cF G) [.ref (G.ad 5 0), .int k] (cct G (pg d kp as un to sc fd tp sh) sp) (fun u : Row => some (.long ((s_aims d fd k).1))) (fun u => cct G (pg d kp u un to sc ((s_aims d fd k).2) tp sh) sp) := by
  refine Cm.start (by decide) (Nat.le_of_ble_eq_true rfl) ?_
  intro p e s m below meth c hf hX hC ls hl
  obtain ⟨hx, hb, hr, hml, hown, hts, hlocks⟩ := hf
  have hl : lv_has ls 2 [(0, .ref (G.ad 5 0)), (1, .int k)] := hl
  have hown : s.vm.findClass "OwlEars" = some m.cls := hown
  refine lv_aload_n hx hb dX0_aims_0 rfl (lv_at hl 0 rfl) ?_
  refine lv_iload_n hx hb dX0_aims_1 rfl (lv_at hl 1 rfl) ?_
  refine fc_V (As := [.int k]) (rest := []) hx hb hml hown hts hX hC (m_X0_isStrike k) (lw_V q538 q540 qs4 q108 q541) hdV_X0_isStrike ⟨rfl, rfl⟩ ⟨Nat.le_of_ble_eq_true rfl, Nat.le_of_ble_eq_true rfl⟩ (fx_recv (g := 5) (i := 0) (ci := 1) (q := (RX0, TX0, 13)) hX hC (cin rfl) rfl rfl) hl.1 rfl (Nat.le_of_ble_eq_true rfl) ⟨Nat.zero_le _, Nat.zero_le _⟩ dX0_aims_2 (fun _ H locs hC => ?_)
  refine W.eq (g2 := F0 m 5 ls [.int (b2i (p_in k 0 (d 1 - 1)))]) rfl ?_
  refine fb_eq (tgt := 19) hx hb dX0_aims_5 (by decide) (fun c_2 => ?_) (fun c_2 => ?_)
  · refine lv_aload_n hx hb dX0_aims_19 rfl (lv_at hl 0 rfl) ?_
    refine lv_iconst (v := 0) hx hb dX0_aims_20 rfl ?_
    refine fc_V (As := [.int 0]) (rest := []) hx hb hml hown hts hX hC (m_X0_finding 0 (vin_b rfl)) (lw_V q472 q474 qs2 q108 q475) hdV_X0_finding ⟨rfl, rfl⟩ ⟨Nat.le_of_ble_eq_true rfl, Nat.le_of_ble_eq_true rfl⟩ (fx_recv (g := 5) (i := 0) (ci := 1) (q := (RX0, TX0, 13)) hX hC (cin rfl) rfl rfl) hl.1 rfl (Nat.le_of_ble_eq_true rfl) ⟨Nat.zero_le _, Nat.zero_le _⟩ dX0_aims_21 (fun _ H locs hC => ?_)
    refine W.eq (g2 := F0 m 24 ls [.int (-1000001)]) rfl ?_
    refine lv_i2l (v := ((-1000001) : Int32).toInt64) hx hb dX0_aims_24 rfl ?_
    have hs : s_aims d fd k = ((((-1000001) : Int32).toInt64, p_find fd 0) : Int64 × Row) := by first | grind [s_aims] | rfl
    exact fr_l hx hb hr hlocks hX hC as (congrArg (fun z => some (Value.long z)) (t2_1 hs)) (congrArg (fun z => cct G (pg d kp as un to sc z tp sh) sp) (t2_2 hs)).symm dX0_aims_25
  · refine lv_aload_n hx hb dX0_aims_8 rfl (lv_at hl 0 rfl) ?_
    refine lv_iload_n hx hb dX0_aims_9 rfl (lv_at hl 1 rfl) ?_
    refine lv_iconst (v := 1) hx hb dX0_aims_10 rfl ?_
    refine lv_bipush (v := 36) hx hb dX0_aims_11 rfl ?_
    refine fc_V (As := [.int k, .int 1, .int 36]) (rest := []) hx hb hml hown hts hX hC (m_X0_allThatHave_1 hw k (kin_of hw c_2)) (lw_V q904 q906 qs21 q108 q907) hdV_X0_allThatHave ⟨rfl, rfl⟩ ⟨Nat.le_of_ble_eq_true rfl, Nat.le_of_ble_eq_true rfl⟩ (fx_recv (g := 5) (i := 0) (ci := 1) (q := (RX0, TX0, 13)) hX hC (cin rfl) rfl rfl) hl.1 rfl (Nat.le_of_ble_eq_true rfl) ⟨Nat.zero_le _, Nat.zero_le _⟩ dX0_aims_13 (fun u_4 H locs hC => ?_)
    refine W.eq (g2 := F0 m 16 ls [.long (p_all d k (93 + 4 * ix k) 36)]) rfl ?_
    refine lv_goto (tgt := 25) hx hb dX0_aims_16 (by decide) ?_
    have hs : s_aims d fd k = ((p_all d k (93 + 4 * ix k) 36, fd) : Int64 × Row) := by first | grind [s_aims] | rfl
    exact fr_l hx hb hr hlocks hX hC u_4 (congrArg (fun z => some (Value.long z)) (t2_1 hs)) (congrArg (fun z => cct G (pg d kp u_4 un to sc z tp sh) sp) (t2_2 hs)).symm dX0_aims_25
set_option maxRecDepth 100000 in
theorem m_X0_kinds {l : Launch} {G : Gc} {d kp as un to sc fd tp sh : Row} {sp : Nat → Option Nat} (hw : WF d) (k : Int32) : Cm l yX0_kinds (ws_ yX0_kinds cX0_kinds 2 (some .int)) ({ frames := 11, cells := 0, slots := 0, locals := 373 }) (cF G) [.ref (G.ad 5 0), .int k] (cct G (pg d kp as un to sc fd tp sh) sp) (fun u : Row => some (.int ((s_kinds d fd k).1))) (fun u => cct G (pg d kp u un to sc ((s_kinds d fd k).2) tp sh) sp) := by
  refine Cm.start (by decide) (Nat.le_of_ble_eq_true rfl) ?_
  intro p e s m below meth c hf hX hC ls hl
  obtain ⟨hx, hb, hr, hml, hown, hts, hlocks⟩ := hf
  have hl : lv_has ls 2 [(0, .ref (G.ad 5 0)), (1, .int k)] := hl
  have hown : s.vm.findClass "OwlEars" = some m.cls := hown
  refine lv_aload_n hx hb dX0_kinds_0 rfl (lv_at hl 0 rfl) ?_
  refine lv_iload_n hx hb dX0_kinds_1 rfl (lv_at hl 1 rfl) ?_
  refine fc_V (As := [.int k]) (rest := []) hx hb hml hown hts hX hC (m_X0_isStrike k) (lw_V q538 q540 qs4 q108 q541) hdV_X0_isStrike ⟨rfl, rfl⟩ ⟨Nat.le_of_ble_eq_true rfl, Nat.le_of_ble_eq_true rfl⟩ (fx_recv (g := 5) (i := 0) (ci := 1) (q := (RX0, TX0, 13)) hX hC (cin rfl) rfl rfl) hl.1 rfl (Nat.le_of_ble_eq_true rfl) ⟨Nat.zero_le _, Nat.zero_le _⟩ dX0_kinds_2 (fun _ H locs hC => ?_)
  refine W.eq (g2 := F0 m 5 ls [.int (b2i (p_in k 0 (d 1 - 1)))]) rfl ?_
  refine fb_eq (tgt := 20) hx hb dX0_kinds_5 (by decide) (fun c_2 => ?_) (fun c_2 => ?_)
  · refine lv_aload_n hx hb dX0_kinds_20 rfl (lv_at hl 0 rfl) ?_
    refine lv_iconst (v := 0) hx hb dX0_kinds_21 rfl ?_
    refine fc_V (As := [.int 0]) (rest := []) hx hb hml hown hts hX hC (m_X0_finding 0 (vin_b rfl)) (lw_V q472 q474 qs2 q108 q475) hdV_X0_finding ⟨rfl, rfl⟩ ⟨Nat.le_of_ble_eq_true rfl, Nat.le_of_ble_eq_true rfl⟩ (fx_recv (g := 5) (i := 0) (ci := 1) (q := (RX0, TX0, 13)) hX hC (cin rfl) rfl rfl) hl.1 rfl (Nat.le_of_ble_eq_true rfl) ⟨Nat.zero_le _, Nat.zero_le _⟩ dX0_kinds_22 (fun _ H locs hC => ?_)
    refine W.eq (g2 := F0 m 25 ls [.int (-1000001)]) rfl ?_
    have hs : s_kinds d fd k = (((-1000001), p_find fd 0) : Int32 × Row) := by first | grind [s_kinds] | rfl
    exact fr_i hx hb hr hlocks hX hC as (congrArg (fun z => some (Value.int z)) (t2_1 hs)) (congrArg (fun z => cct G (pg d kp as un to sc z tp sh) sp) (t2_2 hs)).symm dX0_kinds_25
  · refine lv_aload_n hx hb dX0_kinds_8 rfl (lv_at hl 0 rfl) ?_
    refine lv_iload_n hx hb dX0_kinds_9 rfl (lv_at hl 1 rfl) ?_
    refine lv_iconst (v := 0) hx hb dX0_kinds_10 rfl ?_
    refine lv_bipush (v := 7) hx hb dX0_kinds_11 rfl ?_
    refine fc_V (As := [.int k, .int 0, .int 7]) (rest := []) hx hb hml hown hts hX hC (m_X0_allThatHave_0 hw k (kin_of hw c_2)) (lw_V q904 q906 qs21 q108 q907) hdV_X0_allThatHave ⟨rfl, rfl⟩ ⟨Nat.le_of_ble_eq_true rfl, Nat.le_of_ble_eq_true rfl⟩ (fx_recv (g := 5) (i := 0) (ci := 1) (q := (RX0, TX0, 13)) hX hC (cin rfl) rfl rfl) hl.1 rfl (Nat.le_of_ble_eq_true rfl) ⟨Nat.zero_le _, Nat.zero_le _⟩ dX0_kinds_13 (fun u_4 H locs hC => ?_)
    refine W.eq (g2 := F0 m 16 ls [.long (p_all d k (92 + 4 * ix k) 7)]) rfl ?_
    refine lv_l2i (v := (p_all d k (92 + 4 * ix k) 7).toInt32) hx hb dX0_kinds_16 rfl ?_
    refine lv_goto (tgt := 25) hx hb dX0_kinds_17 (by decide) ?_
    have hs : s_kinds d fd k = (((p_all d k (92 + 4 * ix k) 7).toInt32, fd) : Int32 × Row) := by first | grind [s_kinds] | rfl
    exact fr_i hx hb hr hlocks hX hC u_4 (congrArg (fun z => some (Value.int z)) (t2_1 hs)) (congrArg (fun z => cct G (pg d kp u_4 un to sc z tp sh) sp) (t2_2 hs)).symm dX0_kinds_25
