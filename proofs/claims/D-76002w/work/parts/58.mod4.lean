theorem hdV_X13_aimsOf : yX13_aimsOf.cls = RX13 ∧ yX13_aimsOf.cls ≠ "java/lang/invoke/MethodHandle" ∧ yX13_aimsOf.cls ≠ "java/lang/invoke/VarHandle" ∧ (parseMethodDescriptor yX13_aimsOf.desc).map (fun d => d.parameters.length) = some 1 := by decide +kernel
theorem hdV_X13_good : yX13_good.cls = RX13 ∧ yX13_good.cls ≠ "java/lang/invoke/MethodHandle" ∧ yX13_good.cls ≠ "java/lang/invoke/VarHandle" ∧ (parseMethodDescriptor yX13_good.desc).map (fun d => d.parameters.length) = some 3 := by decide +kernel
theorem hdS_X13_bits : yX13_bits.cls ≠ "java/lang/invoke/MethodHandle" ∧ yX13_bits.cls ≠ "java/lang/invoke/VarHandle" ∧ (parseMethodDescriptor yX13_bits.desc).map (fun d => d.parameters.length) = some 1 := by decide +kernel
theorem hdS_X13_isLooked : yX13_isLooked.cls ≠ "java/lang/invoke/MethodHandle" ∧ yX13_isLooked.cls ≠ "java/lang/invoke/VarHandle" ∧ (parseMethodDescriptor yX13_isLooked.desc).map (fun d => d.parameters.length) = some 1 := by decide +kernel
theorem hdV_X13_mostHeard : yX13_mostHeard.cls = RX13 ∧ yX13_mostHeard.cls ≠ "java/lang/invoke/MethodHandle" ∧ yX13_mostHeard.cls ≠ "java/lang/invoke/VarHandle" ∧ (parseMethodDescriptor yX13_mostHeard.desc).map (fun d => d.parameters.length) = some 3 := by decide +kernel
set_option maxRecDepth 100000 in
theorem m_X13_aimsOf {l : Launch} {G : Gm} {d kp as bf sc fd tp it ws sz nu mv : Row} (hw : WF d) (k : Int32) (hk : vp_in k 8) : Cm l yX13_aimsOf (ws_ yX13_aimsOf cX13_aimsOf 6 (some .long)) ({ frames := 5, cells := 0, slots := 0, locals := 108 }) (mF G) [.ref (G.ad 0 0), .int k] (mct G (mpg d kp as bf sc fd tp it ws sz nu mv)) (fun u : Row => some (.long (lN (p_set (p_hasAt d k (93 + 4 * ix k)) 36)))) (fun u => mct G (mpg d kp as u sc fd tp it ws sz nu mv)) := by
  refine Cm.start (by decide) (Nat.le_of_ble_eq_true rfl) ?_
  intro p e s m below meth c hf hX hC ls hl
  obtain ⟨hx, hb, hr, hml, hown, hts, hlocks⟩ := hf
  have hl : lv_has ls 6 [(0, .ref (G.ad 0 0)), (1, .int k)] := hl
  have hown : s.vm.findClass "OwlEarsModel" = some m.cls := hown
  refine lv_aload_n hx hb dX13_aimsOf_0 rfl (lv_at hl 0 rfl) ?_
  refine lv_iload_n hx hb dX13_aimsOf_1 rfl (lv_at hl 1 rfl) ?_
  refine lv_iconst (v := 1) hx hb dX13_aimsOf_2 rfl ?_
  refine fc_V (As := [.int k, .int 1]) (rest := []) hx hb hml hown hts hX hC (m_X13_strikeIs_1 k hk) (lw_V q1475 q1477 qs64 q124 q1478) hdV_X13_strikeIs ⟨rfl, rfl⟩ ⟨Nat.le_of_ble_eq_true rfl, Nat.le_of_ble_eq_true rfl⟩ (fx_recv (g := 0) (i := 0) (ci := 0) (q := (RX13, TX13, 24)) hX hC (min_ (by decide)) rfl rfl) hl.1 rfl (Nat.le_of_ble_eq_true rfl) ⟨Nat.zero_le _, Nat.zero_le _⟩ dX13_aimsOf_3 (fun _ H locs hC => ?_)
  refine W.eq (g2 := F0 m 6 ls [.int (d (93 + 4 * ix k))]) rfl ?_
  refine lv_istore_n (lv' := [(2, .int (d (93 + 4 * ix k))), (0, .ref (G.ad 0 0)), (1, .int k)]) hx hb dX13_aimsOf_6 rfl hl (by decide) rfl (fun ls hl => ?_)
  refine lv_lconst (v := 0) hx hb dX13_aimsOf_7 rfl ?_
  refine lv_lstore_n (lv' := [(3, .long 0), (2, .int (d (93 + 4 * ix k))), (0, .ref (G.ad 0 0)), (1, .int k)]) hx hb dX13_aimsOf_8 rfl hl (by decide) rfl (fun ls hl => ?_)
  refine lv_iconst (v := 0) hx hb dX13_aimsOf_9 rfl ?_
  refine lv_istore (lv' := [(5, .int 0), (3, .long 0), (2, .int (d (93 + 4 * ix k))), (0, .ref (G.ad 0 0)), (1, .int k)]) hx hb dX13_aimsOf_10 hl (by decide) rfl (fun ls hl => ?_)
  have L_2 : ∀ (k2 i2 : Nat), i2 + k2 = 36 → ∀ (bf2 : Row) (x2 : Int32) (H : Heap) (locs : List Loc), fC (mF G) (mct G (mpg (upd d (93 + 4 * ix k) x2) kp as bf2 sc fd tp it ws sz nu mv)) s.heap H locs → ∀ ls : Array Slot, lv_has ls 6 [(0, .ref (G.ad 0 0)), (1, .int k), (2, .int (d (93 + 4 * ix k))), (3, .long (p_orl (fun v => if p_has (upd d (93 + 4 * ix k) (nI v)) k then 1 <<< ((nI v).toInt64 &&& 63) else 0) i2)), (5, .int (nI i2))] → WG p l e ({ frames := 5, cells := 0, slots := 0, locals := 108 }) s m (([.ref (G.ad 0 0), .int k] : List Value).toArray) below meth c H locs (mF G) (fun u : Row => some (.long (lN (p_set (p_hasAt d k (93 + 4 * ix k)) 36)))) (fun u => mct G (mpg d kp as u sc fd tp it ws sz nu mv)) (F0 m 12 ls []) := by
    intro k2
    induction k2 with
    | zero =>
      intro i2 hi2 bf2 x2 H locs hC ls hl
      obtain rfl : i2 = 36 := by omega
      refine lv_iload hx hb dX13_aimsOf_12 (lv_at hl 4 rfl) ?_
      refine lv_bipush (v := 36) hx hb dX13_aimsOf_14 rfl ?_
      refine fj_ge (tgt := 56) hx hb dX13_aimsOf_16 (by decide) (fun _ => ?_) (fun z_3 => absurd z_3 (nlt_ix (n := 36)))
      refine lv_aload_n hx hb dX13_aimsOf_56 rfl (lv_at hl 0 rfl) ?_
      refine fg_get (C := RX13) (T := TX13) (N := 24) (ci := 0) (g := 0) (i := 0) (v := .ref (G.ad 0 1)) hx hb hown hts hX hC in_X13 rfl (min_ (by decide)) rfl 0 (by decide) q1310 (fun _ h => h) rfl dX13_aimsOf_57 ?_
      refine lv_iload_n hx hb dX13_aimsOf_60 rfl (lv_at hl 1 rfl) ?_
      refine lv_iconst (v := 1) hx hb dX13_aimsOf_61 rfl ?_
      refine fc_S (As := [.int k, .int 1]) (rest := [.ref (G.ad 0 1)]) hx hb hml hown hts hX hC (m_X13_place k 1) (lw_S q1460 q1461 q124 q1462) hdS_X13_place ⟨rfl, rfl⟩ ⟨Nat.le_of_ble_eq_true rfl, Nat.le_of_ble_eq_true rfl⟩ hl.1 rfl (Nat.le_of_ble_eq_true rfl) ⟨Nat.zero_le _, Nat.zero_le _⟩ dX13_aimsOf_62 (fun _ H locs hC => ?_)
      refine W.eq (g2 := F0 m 65 ls [.int (92 + 4 * k + 1), .ref (G.ad 0 1)]) rfl ?_
      refine lv_iload_n hx hb dX13_aimsOf_65 rfl (lv_at hl 2 rfl) ?_
      refine fg_iast (g := 0) (i := 1) (t0 := 0) hx hb hX hC (min_ (by decide)) rfl rfl (vinpl 1 hk (by decide)) (mct G (mpg (upd (upd d (93 + 4 * ix k) x2) (93 + 4 * ix k) (d (93 + 4 * ix k))) kp as bf2 sc fd tp it ws sz nu mv)) (mu mp1 (mst (ixpl 1 hk (by decide)))) dX13_aimsOf_66 (fun H locs hC => ?_)
      refine lv_lload_n hx hb dX13_aimsOf_67 rfl (lv_at hl 3 rfl) ?_
      exact fr_l hx hb hr hlocks hX hC bf2 (congrArg (fun z => some (Value.long z)) ((p_orl_set (p_hasAt d k (93 + 4 * ix k)) 36 (by decide)).symm)) (congrArg (fun z => mct G (mpg z kp as bf2 sc fd tp it ws sz nu mv)) (upd_back d (93 + 4 * ix k) _)) dX13_aimsOf_68
    | succ k2 ih2 =>
      intro i2 hi2 bf2 x2 H locs hC ls hl
      refine lv_iload hx hb dX13_aimsOf_12 (lv_at hl 4 rfl) ?_
      refine lv_bipush (v := 36) hx hb dX13_aimsOf_14 rfl ?_
      refine fj_ge (tgt := 56) hx hb dX13_aimsOf_16 (by decide) (fun z_5 => absurd (lt_ix (n := 36) (show i2 < 36 by omega)) z_5) (fun _ => ?_)
      refine lv_aload_n hx hb dX13_aimsOf_19 rfl (lv_at hl 0 rfl) ?_
      refine fg_get (C := RX13) (T := TX13) (N := 24) (ci := 0) (g := 0) (i := 0) (v := .ref (G.ad 0 1)) hx hb hown hts hX hC in_X13 rfl (min_ (by decide)) rfl 0 (by decide) q1310 (fun _ h => h) rfl dX13_aimsOf_20 ?_
      refine lv_iload_n hx hb dX13_aimsOf_23 rfl (lv_at hl 1 rfl) ?_
      refine lv_iconst (v := 1) hx hb dX13_aimsOf_24 rfl ?_
      refine fc_S (As := [.int k, .int 1]) (rest := [.ref (G.ad 0 1)]) hx hb hml hown hts hX hC (m_X13_place k 1) (lw_S q1460 q1461 q124 q1462) hdS_X13_place ⟨rfl, rfl⟩ ⟨Nat.le_of_ble_eq_true rfl, Nat.le_of_ble_eq_true rfl⟩ hl.1 rfl (Nat.le_of_ble_eq_true rfl) ⟨Nat.zero_le _, Nat.zero_le _⟩ dX13_aimsOf_25 (fun _ H locs hC => ?_)
      refine W.eq (g2 := F0 m 28 ls [.int (92 + 4 * k + 1), .ref (G.ad 0 1)]) rfl ?_
      refine lv_iload hx hb dX13_aimsOf_28 (lv_at hl 4 rfl) ?_
      refine fg_iast (g := 0) (i := 1) (t0 := 0) hx hb hX hC (min_ (by decide)) rfl rfl (vinpl 1 hk (by decide)) (mct G (mpg (upd (upd d (93 + 4 * ix k) x2) (93 + 4 * ix k) (nI i2)) kp as bf2 sc fd tp it ws sz nu mv)) (mu mp1 (mst (ixpl 1 hk (by decide)))) dX13_aimsOf_30 (fun H locs hC => ?_)
      have hC := (congrArg (fun z => fC (mF G) (mct G (mpg z kp as bf2 sc fd tp it ws sz nu mv)) s.heap _ _) (upd_uu d (93 + 4 * ix k) x2 (nI i2))).mp hC
      refine lv_lload_n hx hb dX13_aimsOf_31 rfl (lv_at hl 3 rfl) ?_
      refine lv_aload_n hx hb dX13_aimsOf_32 rfl (lv_at hl 0 rfl) ?_
      refine lv_iload_n hx hb dX13_aimsOf_33 rfl (lv_at hl 1 rfl) ?_
      refine fc_V (As := [.int k]) (rest := [.long (p_orl (fun v => if p_has (upd d (93 + 4 * ix k) (nI v)) k then 1 <<< ((nI v).toInt64 &&& 63) else 0) i2)]) hx hb hml hown hts hX hC (m_X13_has (hw.putS (by omega) (by omega)) k hk) (lw_V q1487 q1489 qs67 q124 q1490) hdV_X13_has ⟨rfl, rfl⟩ ⟨Nat.le_of_ble_eq_true rfl, Nat.le_of_ble_eq_true rfl⟩ (fx_recv (g := 0) (i := 0) (ci := 0) (q := (RX13, TX13, 24)) hX hC (min_ (by decide)) rfl rfl) hl.1 rfl (Nat.le_of_ble_eq_true rfl) ⟨Nat.zero_le _, Nat.zero_le _⟩ dX13_aimsOf_34 (fun _ H locs hC => ?_)
      refine W.eq (g2 := F0 m 37 ls [.int (b2i (p_has (upd d (93 + 4 * ix k) (nI i2)) k)), .long (p_orl (fun v => if p_has (upd d (93 + 4 * ix k) (nI v)) k then 1 <<< ((nI v).toInt64 &&& 63) else 0) i2)]) rfl ?_
      refine fw_joinl (C := p_has (upd d (93 + 4 * ix k) (nI i2)) k) (a := 1 <<< ((nI i2).toInt64 &&& 63)) (b := 0) (pcj := 48) (ls := ls) (rest := [.long (p_orl (fun v => if p_has (upd d (93 + 4 * ix k) (nI v)) k then 1 <<< ((nI v).toInt64 &&& 63) else 0) i2)]) (fun ja jb => ?_) ?_
      · refine fb_eq (tgt := 47) hx hb dX13_aimsOf_37 (by decide) (fun c_8 => ?_) (fun c_8 => ?_)
        · refine lv_lconst (v := 0) hx hb dX13_aimsOf_47 rfl ?_
          exact jb c_8
        · refine lv_lconst (v := 1) hx hb dX13_aimsOf_40 rfl ?_
          refine lv_iload hx hb dX13_aimsOf_41 (lv_at hl 4 rfl) ?_
          refine lv_lshl (v := 1 <<< ((nI i2).toInt64 &&& 63)) hx hb dX13_aimsOf_43 rfl ?_
          refine lv_goto (tgt := 48) hx hb dX13_aimsOf_44 (by decide) ?_
          exact ja c_8
      refine lv_lor hx hb dX13_aimsOf_48 ?_
      refine lv_lstore_n (lv' := [(3, .long ((p_orl (fun v => if p_has (upd d (93 + 4 * ix k) (nI v)) k then 1 <<< ((nI v).toInt64 &&& 63) else 0) i2) ||| (if p_has (upd d (93 + 4 * ix k) (nI i2)) k then 1 <<< ((nI i2).toInt64 &&& 63) else 0))), (0, .ref (G.ad 0 0)), (1, .int k), (2, .int (d (93 + 4 * ix k))), (5, .int (nI i2))]) hx hb dX13_aimsOf_49 rfl hl (by decide) rfl (fun ls hl => ?_)
      refine lv_iinc (v := nI (i2 + 1)) (lv' := [(5, .int (nI (i2 + 1))), (3, .long ((p_orl (fun v => if p_has (upd d (93 + 4 * ix k) (nI v)) k then 1 <<< ((nI v).toInt64 &&& 63) else 0) i2) ||| (if p_has (upd d (93 + 4 * ix k) (nI i2)) k then 1 <<< ((nI i2).toInt64 &&& 63) else 0))), (0, .ref (G.ad 0 0)), (1, .int k), (2, .int (d (93 + 4 * ix k)))]) hx hb dX13_aimsOf_50 hl (k := 4) rfl (nI_1 _) (by decide) rfl (fun ls hl => ?_)
      refine lv_goto (tgt := 12) hx hb dX13_aimsOf_53 (by decide) ?_
      exact ih2 (i2 + 1) (by omega) _ _ _ _ hC ls (lv_sub hl [2, 3, 4, 1, 0] rfl)
  have hC := (congrArg (fun z => fC (mF G) (mct G (mpg z kp as bf sc fd tp it ws sz nu mv)) s.heap _ _) (upd_id d (93 + 4 * ix k))).mp hC
  exact L_2 36 0 (by omega) _ _ _ _ hC ls (lv_sub hl [3, 4, 2, 1, 0] rfl)
set_option maxRecDepth 100000 in
theorem m_X13_good_0 {l : Launch} {G : Gm} {d kp as bf sc fd tp it ws sz nu mv : Row} (hw : WF d) (k : Int32) (hk : vp_in k 8) : Cm l yX13_good (ws_ yX13_good cX13_good 7 (some .int)) ({ frames := 5, cells := 0, slots := 0, locals := 108 }) (mF G) [.ref (G.ad 0 0), .int k, .int 0, .int 7] (mct G (mpg d kp as bf sc fd tp it ws sz nu mv)) (fun u : Row => some (.int (nI (p_set (p_hasAt d k (92 + 4 * ix k)) 7)))) (fun u => mct G (mpg d kp as u sc fd tp it ws sz nu mv)) := by
  refine Cm.start (by decide) (Nat.le_of_ble_eq_true rfl) ?_
  intro p e s m below meth c hf hX hC ls hl
  obtain ⟨hx, hb, hr, hml, hown, hts, hlocks⟩ := hf
  have hl : lv_has ls 7 [(0, .ref (G.ad 0 0)), (1, .int k), (2, .int 0), (3, .int 7)] := hl
  have hown : s.vm.findClass "OwlEarsModel" = some m.cls := hown
  refine lv_aload_n hx hb dX13_good_0 rfl (lv_at hl 0 rfl) ?_
  refine lv_iload_n hx hb dX13_good_1 rfl (lv_at hl 1 rfl) ?_
  refine lv_iload_n hx hb dX13_good_2 rfl (lv_at hl 2 rfl) ?_
  refine fc_V (As := [.int k, .int 0]) (rest := []) hx hb hml hown hts hX hC (m_X13_strikeIs_0 k hk) (lw_V q1475 q1477 qs64 q124 q1478) hdV_X13_strikeIs ⟨rfl, rfl⟩ ⟨Nat.le_of_ble_eq_true rfl, Nat.le_of_ble_eq_true rfl⟩ (fx_recv (g := 0) (i := 0) (ci := 0) (q := (RX13, TX13, 24)) hX hC (min_ (by decide)) rfl rfl) hl.1 rfl (Nat.le_of_ble_eq_true rfl) ⟨Nat.zero_le _, Nat.zero_le _⟩ dX13_good_3 (fun _ H locs hC => ?_)
  refine W.eq (g2 := F0 m 6 ls [.int (d (92 + 4 * ix k))]) rfl ?_
  refine lv_istore (lv' := [(4, .int (d (92 + 4 * ix k))), (0, .ref (G.ad 0 0)), (1, .int k), (2, .int 0), (3, .int 7)]) hx hb dX13_good_6 hl (by decide) rfl (fun ls hl => ?_)
  refine lv_iconst (v := 0) hx hb dX13_good_8 rfl ?_
  refine lv_istore (lv' := [(5, .int 0), (4, .int (d (92 + 4 * ix k))), (0, .ref (G.ad 0 0)), (1, .int k), (2, .int 0), (3, .int 7)]) hx hb dX13_good_9 hl (by decide) rfl (fun ls hl => ?_)
  refine lv_iconst (v := 0) hx hb dX13_good_11 rfl ?_
  refine lv_istore (lv' := [(6, .int 0), (5, .int 0), (4, .int (d (92 + 4 * ix k))), (0, .ref (G.ad 0 0)), (1, .int k), (2, .int 0), (3, .int 7)]) hx hb dX13_good_12 hl (by decide) rfl (fun ls hl => ?_)
  have L_2 : ∀ (k2 i2 : Nat), i2 + k2 = 7 → ∀ (bf2 : Row) (x2 : Int32) (H : Heap) (locs : List Loc), fC (mF G) (mct G (mpg (upd d (92 + 4 * ix k) x2) kp as bf2 sc fd tp it ws sz nu mv)) s.heap H locs → ∀ ls : Array Slot, lv_has ls 7 [(0, .ref (G.ad 0 0)), (1, .int k), (2, .int 0), (3, .int 7), (4, .int (d (92 + 4 * ix k))), (5, .int (p_orr (fun v => if p_has (upd d (92 + 4 * ix k) (nI v)) k then 1 <<< (nI v &&& 31) else 0) i2)), (6, .int (nI i2))] → WG p l e ({ frames := 5, cells := 0, slots := 0, locals := 108 }) s m (([.ref (G.ad 0 0), .int k, .int 0, .int 7] : List Value).toArray) below meth c H locs (mF G) (fun u : Row => some (.int (nI (p_set (p_hasAt d k (92 + 4 * ix k)) 7)))) (fun u => mct G (mpg d kp as u sc fd tp it ws sz nu mv)) (F0 m 14 ls []) := by
    intro k2
    induction k2 with
    | zero =>
      intro i2 hi2 bf2 x2 H locs hC ls hl
      obtain rfl : i2 = 7 := by omega
      refine lv_iload hx hb dX13_good_14 (lv_at hl 6 rfl) ?_
      refine lv_iload_n hx hb dX13_good_16 rfl (lv_at hl 3 rfl) ?_
      refine fj_ge (tgt := 59) hx hb dX13_good_17 (by decide) (fun _ => ?_) (fun z_3 => absurd z_3 (nlt_ix (n := 7)))
      refine lv_aload_n hx hb dX13_good_59 rfl (lv_at hl 0 rfl) ?_
      refine fg_get (C := RX13) (T := TX13) (N := 24) (ci := 0) (g := 0) (i := 0) (v := .ref (G.ad 0 1)) hx hb hown hts hX hC in_X13 rfl (min_ (by decide)) rfl 0 (by decide) q1310 (fun _ h => h) rfl dX13_good_60 ?_
      refine lv_iload_n hx hb dX13_good_63 rfl (lv_at hl 1 rfl) ?_
      refine lv_iload_n hx hb dX13_good_64 rfl (lv_at hl 2 rfl) ?_
      refine fc_S (As := [.int k, .int 0]) (rest := [.ref (G.ad 0 1)]) hx hb hml hown hts hX hC (m_X13_place k 0) (lw_S q1460 q1461 q124 q1462) hdS_X13_place ⟨rfl, rfl⟩ ⟨Nat.le_of_ble_eq_true rfl, Nat.le_of_ble_eq_true rfl⟩ hl.1 rfl (Nat.le_of_ble_eq_true rfl) ⟨Nat.zero_le _, Nat.zero_le _⟩ dX13_good_65 (fun _ H locs hC => ?_)
      refine W.eq (g2 := F0 m 68 ls [.int (92 + 4 * k + 0), .ref (G.ad 0 1)]) rfl ?_
      refine lv_iload hx hb dX13_good_68 (lv_at hl 4 rfl) ?_
      refine fg_iast (g := 0) (i := 1) (t0 := 0) hx hb hX hC (min_ (by decide)) rfl rfl (vinpl 0 hk (by decide)) (mct G (mpg (upd (upd d (92 + 4 * ix k) x2) (92 + 4 * ix k) (d (92 + 4 * ix k))) kp as bf2 sc fd tp it ws sz nu mv)) (mu mp1 (mst (ixpl 0 hk (by decide)))) dX13_good_70 (fun H locs hC => ?_)
      refine lv_iload hx hb dX13_good_71 (lv_at hl 5 rfl) ?_
      exact fr_i hx hb hr hlocks hX hC bf2 (congrArg (fun z => some (Value.int z)) ((p_orr_set (p_hasAt d k (92 + 4 * ix k)) 7 (by decide)).symm)) (congrArg (fun z => mct G (mpg z kp as bf2 sc fd tp it ws sz nu mv)) (upd_back d (92 + 4 * ix k) _)) dX13_good_73
    | succ k2 ih2 =>
      intro i2 hi2 bf2 x2 H locs hC ls hl
      refine lv_iload hx hb dX13_good_14 (lv_at hl 6 rfl) ?_
      refine lv_iload_n hx hb dX13_good_16 rfl (lv_at hl 3 rfl) ?_
      refine fj_ge (tgt := 59) hx hb dX13_good_17 (by decide) (fun z_5 => absurd (lt_ix (n := 7) (show i2 < 7 by omega)) z_5) (fun _ => ?_)
      refine lv_aload_n hx hb dX13_good_20 rfl (lv_at hl 0 rfl) ?_
      refine fg_get (C := RX13) (T := TX13) (N := 24) (ci := 0) (g := 0) (i := 0) (v := .ref (G.ad 0 1)) hx hb hown hts hX hC in_X13 rfl (min_ (by decide)) rfl 0 (by decide) q1310 (fun _ h => h) rfl dX13_good_21 ?_
      refine lv_iload_n hx hb dX13_good_24 rfl (lv_at hl 1 rfl) ?_
      refine lv_iload_n hx hb dX13_good_25 rfl (lv_at hl 2 rfl) ?_
      refine fc_S (As := [.int k, .int 0]) (rest := [.ref (G.ad 0 1)]) hx hb hml hown hts hX hC (m_X13_place k 0) (lw_S q1460 q1461 q124 q1462) hdS_X13_place ⟨rfl, rfl⟩ ⟨Nat.le_of_ble_eq_true rfl, Nat.le_of_ble_eq_true rfl⟩ hl.1 rfl (Nat.le_of_ble_eq_true rfl) ⟨Nat.zero_le _, Nat.zero_le _⟩ dX13_good_26 (fun _ H locs hC => ?_)
      refine W.eq (g2 := F0 m 29 ls [.int (92 + 4 * k + 0), .ref (G.ad 0 1)]) rfl ?_
      refine lv_iload hx hb dX13_good_29 (lv_at hl 6 rfl) ?_
      refine fg_iast (g := 0) (i := 1) (t0 := 0) hx hb hX hC (min_ (by decide)) rfl rfl (vinpl 0 hk (by decide)) (mct G (mpg (upd (upd d (92 + 4 * ix k) x2) (92 + 4 * ix k) (nI i2)) kp as bf2 sc fd tp it ws sz nu mv)) (mu mp1 (mst (ixpl 0 hk (by decide)))) dX13_good_31 (fun H locs hC => ?_)
      have hC := (congrArg (fun z => fC (mF G) (mct G (mpg z kp as bf2 sc fd tp it ws sz nu mv)) s.heap _ _) (upd_uu d (92 + 4 * ix k) x2 (nI i2))).mp hC
      refine lv_iload hx hb dX13_good_32 (lv_at hl 5 rfl) ?_
      refine lv_aload_n hx hb dX13_good_34 rfl (lv_at hl 0 rfl) ?_
      refine lv_iload_n hx hb dX13_good_35 rfl (lv_at hl 1 rfl) ?_
      refine fc_V (As := [.int k]) (rest := [.int (p_orr (fun v => if p_has (upd d (92 + 4 * ix k) (nI v)) k then 1 <<< (nI v &&& 31) else 0) i2)]) hx hb hml hown hts hX hC (m_X13_has (hw.put92 (show i2 < 7 by omega)) k hk) (lw_V q1487 q1489 qs67 q124 q1490) hdV_X13_has ⟨rfl, rfl⟩ ⟨Nat.le_of_ble_eq_true rfl, Nat.le_of_ble_eq_true rfl⟩ (fx_recv (g := 0) (i := 0) (ci := 0) (q := (RX13, TX13, 24)) hX hC (min_ (by decide)) rfl rfl) hl.1 rfl (Nat.le_of_ble_eq_true rfl) ⟨Nat.zero_le _, Nat.zero_le _⟩ dX13_good_36 (fun _ H locs hC => ?_)
      refine W.eq (g2 := F0 m 39 ls [.int (b2i (p_has (upd d (92 + 4 * ix k) (nI i2)) k)), .int (p_orr (fun v => if p_has (upd d (92 + 4 * ix k) (nI v)) k then 1 <<< (nI v &&& 31) else 0) i2)]) rfl ?_
      refine fw_join (C := p_has (upd d (92 + 4 * ix k) (nI i2)) k) (a := 1 <<< ((nI i2) &&& 31)) (b := 0) (pcj := 50) (ls := ls) (rest := [.int (p_orr (fun v => if p_has (upd d (92 + 4 * ix k) (nI v)) k then 1 <<< (nI v &&& 31) else 0) i2)]) (fun ja jb => ?_) ?_
      · refine fb_eq (tgt := 49) hx hb dX13_good_39 (by decide) (fun c_8 => ?_) (fun c_8 => ?_)
        · refine lv_iconst (v := 0) hx hb dX13_good_49 rfl ?_
          exact jb c_8
        · refine lv_iconst (v := 1) hx hb dX13_good_42 rfl ?_
          refine lv_iload hx hb dX13_good_43 (lv_at hl 6 rfl) ?_
          refine lv_ishl hx hb dX13_good_45 ?_
          refine lv_goto (tgt := 50) hx hb dX13_good_46 (by decide) ?_
          exact ja c_8
      refine lv_ior hx hb dX13_good_50 ?_
      refine lv_istore (lv' := [(5, .int ((p_orr (fun v => if p_has (upd d (92 + 4 * ix k) (nI v)) k then 1 <<< (nI v &&& 31) else 0) i2) ||| (if p_has (upd d (92 + 4 * ix k) (nI i2)) k then 1 <<< ((nI i2) &&& 31) else 0))), (0, .ref (G.ad 0 0)), (1, .int k), (2, .int 0), (3, .int 7), (4, .int (d (92 + 4 * ix k))), (6, .int (nI i2))]) hx hb dX13_good_51 hl (by decide) rfl (fun ls hl => ?_)
      refine lv_iinc (v := nI (i2 + 1)) (lv' := [(6, .int (nI (i2 + 1))), (5, .int ((p_orr (fun v => if p_has (upd d (92 + 4 * ix k) (nI v)) k then 1 <<< (nI v &&& 31) else 0) i2) ||| (if p_has (upd d (92 + 4 * ix k) (nI i2)) k then 1 <<< ((nI i2) &&& 31) else 0))), (0, .ref (G.ad 0 0)), (1, .int k), (2, .int 0), (3, .int 7), (4, .int (d (92 + 4 * ix k)))]) hx hb dX13_good_53 hl (k := 6) rfl (nI_1 _) (by decide) rfl (fun ls hl => ?_)
      refine lv_goto (tgt := 14) hx hb dX13_good_56 (by decide) ?_
      exact ih2 (i2 + 1) (by omega) _ _ _ _ hC ls (lv_sub hl [2, 3, 4, 5, 6, 1, 0] rfl)
  have hC := (congrArg (fun z => fC (mF G) (mct G (mpg z kp as bf sc fd tp it ws sz nu mv)) s.heap _ _) (upd_id d (92 + 4 * ix k))).mp hC
  exact L_2 7 0 (by omega) _ _ _ _ hC ls (lv_sub hl [3, 4, 5, 6, 2, 1, 0] rfl)
set_option maxRecDepth 100000 in
theorem m_X13_good_2 {l : Launch} {G : Gm} {d kp as bf sc fd tp it ws sz nu mv : Row} (hw : WF d) (k : Int32) (hk : vp_in k 8) : Cm l yX13_good (ws_ yX13_good cX13_good 7 (some .int)) ({ frames := 5, cells := 0, slots := 0, locals := 108 }) (mF G) [.ref (G.ad 0 0), .int k, .int 2, .int 10] (mct G (mpg d kp as bf sc fd tp it ws sz nu mv)) (fun u : Row => some (.int (nI (p_set (p_hasAt d k (94 + 4 * ix k)) 10)))) (fun u => mct G (mpg d kp as u sc fd tp it ws sz nu mv)) := by
  refine Cm.start (by decide) (Nat.le_of_ble_eq_true rfl) ?_
  intro p e s m below meth c hf hX hC ls hl
  obtain ⟨hx, hb, hr, hml, hown, hts, hlocks⟩ := hf
  have hl : lv_has ls 7 [(0, .ref (G.ad 0 0)), (1, .int k), (2, .int 2), (3, .int 10)] := hl
  have hown : s.vm.findClass "OwlEarsModel" = some m.cls := hown
  refine lv_aload_n hx hb dX13_good_0 rfl (lv_at hl 0 rfl) ?_
  refine lv_iload_n hx hb dX13_good_1 rfl (lv_at hl 1 rfl) ?_
  refine lv_iload_n hx hb dX13_good_2 rfl (lv_at hl 2 rfl) ?_
  refine fc_V (As := [.int k, .int 2]) (rest := []) hx hb hml hown hts hX hC (m_X13_strikeIs_2 k hk) (lw_V q1475 q1477 qs64 q124 q1478) hdV_X13_strikeIs ⟨rfl, rfl⟩ ⟨Nat.le_of_ble_eq_true rfl, Nat.le_of_ble_eq_true rfl⟩ (fx_recv (g := 0) (i := 0) (ci := 0) (q := (RX13, TX13, 24)) hX hC (min_ (by decide)) rfl rfl) hl.1 rfl (Nat.le_of_ble_eq_true rfl) ⟨Nat.zero_le _, Nat.zero_le _⟩ dX13_good_3 (fun _ H locs hC => ?_)
  refine W.eq (g2 := F0 m 6 ls [.int (d (94 + 4 * ix k))]) rfl ?_
  refine lv_istore (lv' := [(4, .int (d (94 + 4 * ix k))), (0, .ref (G.ad 0 0)), (1, .int k), (2, .int 2), (3, .int 10)]) hx hb dX13_good_6 hl (by decide) rfl (fun ls hl => ?_)
  refine lv_iconst (v := 0) hx hb dX13_good_8 rfl ?_
  refine lv_istore (lv' := [(5, .int 0), (4, .int (d (94 + 4 * ix k))), (0, .ref (G.ad 0 0)), (1, .int k), (2, .int 2), (3, .int 10)]) hx hb dX13_good_9 hl (by decide) rfl (fun ls hl => ?_)
  refine lv_iconst (v := 0) hx hb dX13_good_11 rfl ?_
  refine lv_istore (lv' := [(6, .int 0), (5, .int 0), (4, .int (d (94 + 4 * ix k))), (0, .ref (G.ad 0 0)), (1, .int k), (2, .int 2), (3, .int 10)]) hx hb dX13_good_12 hl (by decide) rfl (fun ls hl => ?_)
  have L_2 : ∀ (k2 i2 : Nat), i2 + k2 = 10 → ∀ (bf2 : Row) (x2 : Int32) (H : Heap) (locs : List Loc), fC (mF G) (mct G (mpg (upd d (94 + 4 * ix k) x2) kp as bf2 sc fd tp it ws sz nu mv)) s.heap H locs → ∀ ls : Array Slot, lv_has ls 7 [(0, .ref (G.ad 0 0)), (1, .int k), (2, .int 2), (3, .int 10), (4, .int (d (94 + 4 * ix k))), (5, .int (p_orr (fun v => if p_has (upd d (94 + 4 * ix k) (nI v)) k then 1 <<< (nI v &&& 31) else 0) i2)), (6, .int (nI i2))] → WG p l e ({ frames := 5, cells := 0, slots := 0, locals := 108 }) s m (([.ref (G.ad 0 0), .int k, .int 2, .int 10] : List Value).toArray) below meth c H locs (mF G) (fun u : Row => some (.int (nI (p_set (p_hasAt d k (94 + 4 * ix k)) 10)))) (fun u => mct G (mpg d kp as u sc fd tp it ws sz nu mv)) (F0 m 14 ls []) := by
    intro k2
    induction k2 with
    | zero =>
      intro i2 hi2 bf2 x2 H locs hC ls hl
      obtain rfl : i2 = 10 := by omega
      refine lv_iload hx hb dX13_good_14 (lv_at hl 6 rfl) ?_
      refine lv_iload_n hx hb dX13_good_16 rfl (lv_at hl 3 rfl) ?_
      refine fj_ge (tgt := 59) hx hb dX13_good_17 (by decide) (fun _ => ?_) (fun z_3 => absurd z_3 (nlt_ix (n := 10)))
      refine lv_aload_n hx hb dX13_good_59 rfl (lv_at hl 0 rfl) ?_
      refine fg_get (C := RX13) (T := TX13) (N := 24) (ci := 0) (g := 0) (i := 0) (v := .ref (G.ad 0 1)) hx hb hown hts hX hC in_X13 rfl (min_ (by decide)) rfl 0 (by decide) q1310 (fun _ h => h) rfl dX13_good_60 ?_
      refine lv_iload_n hx hb dX13_good_63 rfl (lv_at hl 1 rfl) ?_
      refine lv_iload_n hx hb dX13_good_64 rfl (lv_at hl 2 rfl) ?_
      refine fc_S (As := [.int k, .int 2]) (rest := [.ref (G.ad 0 1)]) hx hb hml hown hts hX hC (m_X13_place k 2) (lw_S q1460 q1461 q124 q1462) hdS_X13_place ⟨rfl, rfl⟩ ⟨Nat.le_of_ble_eq_true rfl, Nat.le_of_ble_eq_true rfl⟩ hl.1 rfl (Nat.le_of_ble_eq_true rfl) ⟨Nat.zero_le _, Nat.zero_le _⟩ dX13_good_65 (fun _ H locs hC => ?_)
      refine W.eq (g2 := F0 m 68 ls [.int (92 + 4 * k + 2), .ref (G.ad 0 1)]) rfl ?_
      refine lv_iload hx hb dX13_good_68 (lv_at hl 4 rfl) ?_
      refine fg_iast (g := 0) (i := 1) (t0 := 0) hx hb hX hC (min_ (by decide)) rfl rfl (vinpl 2 hk (by decide)) (mct G (mpg (upd (upd d (94 + 4 * ix k) x2) (94 + 4 * ix k) (d (94 + 4 * ix k))) kp as bf2 sc fd tp it ws sz nu mv)) (mu mp1 (mst (ixpl 2 hk (by decide)))) dX13_good_70 (fun H locs hC => ?_)
      refine lv_iload hx hb dX13_good_71 (lv_at hl 5 rfl) ?_
      exact fr_i hx hb hr hlocks hX hC bf2 (congrArg (fun z => some (Value.int z)) ((p_orr_set (p_hasAt d k (94 + 4 * ix k)) 10 (by decide)).symm)) (congrArg (fun z => mct G (mpg z kp as bf2 sc fd tp it ws sz nu mv)) (upd_back d (94 + 4 * ix k) _)) dX13_good_73
    | succ k2 ih2 =>
      intro i2 hi2 bf2 x2 H locs hC ls hl
      refine lv_iload hx hb dX13_good_14 (lv_at hl 6 rfl) ?_
      refine lv_iload_n hx hb dX13_good_16 rfl (lv_at hl 3 rfl) ?_
      refine fj_ge (tgt := 59) hx hb dX13_good_17 (by decide) (fun z_5 => absurd (lt_ix (n := 10) (show i2 < 10 by omega)) z_5) (fun _ => ?_)
      refine lv_aload_n hx hb dX13_good_20 rfl (lv_at hl 0 rfl) ?_
      refine fg_get (C := RX13) (T := TX13) (N := 24) (ci := 0) (g := 0) (i := 0) (v := .ref (G.ad 0 1)) hx hb hown hts hX hC in_X13 rfl (min_ (by decide)) rfl 0 (by decide) q1310 (fun _ h => h) rfl dX13_good_21 ?_
      refine lv_iload_n hx hb dX13_good_24 rfl (lv_at hl 1 rfl) ?_
      refine lv_iload_n hx hb dX13_good_25 rfl (lv_at hl 2 rfl) ?_
      refine fc_S (As := [.int k, .int 2]) (rest := [.ref (G.ad 0 1)]) hx hb hml hown hts hX hC (m_X13_place k 2) (lw_S q1460 q1461 q124 q1462) hdS_X13_place ⟨rfl, rfl⟩ ⟨Nat.le_of_ble_eq_true rfl, Nat.le_of_ble_eq_true rfl⟩ hl.1 rfl (Nat.le_of_ble_eq_true rfl) ⟨Nat.zero_le _, Nat.zero_le _⟩ dX13_good_26 (fun _ H locs hC => ?_)
      refine W.eq (g2 := F0 m 29 ls [.int (92 + 4 * k + 2), .ref (G.ad 0 1)]) rfl ?_
      refine lv_iload hx hb dX13_good_29 (lv_at hl 6 rfl) ?_
      refine fg_iast (g := 0) (i := 1) (t0 := 0) hx hb hX hC (min_ (by decide)) rfl rfl (vinpl 2 hk (by decide)) (mct G (mpg (upd (upd d (94 + 4 * ix k) x2) (94 + 4 * ix k) (nI i2)) kp as bf2 sc fd tp it ws sz nu mv)) (mu mp1 (mst (ixpl 2 hk (by decide)))) dX13_good_31 (fun H locs hC => ?_)
      have hC := (congrArg (fun z => fC (mF G) (mct G (mpg z kp as bf2 sc fd tp it ws sz nu mv)) s.heap _ _) (upd_uu d (94 + 4 * ix k) x2 (nI i2))).mp hC
      refine lv_iload hx hb dX13_good_32 (lv_at hl 5 rfl) ?_
      refine lv_aload_n hx hb dX13_good_34 rfl (lv_at hl 0 rfl) ?_
      refine lv_iload_n hx hb dX13_good_35 rfl (lv_at hl 1 rfl) ?_
      refine fc_V (As := [.int k]) (rest := [.int (p_orr (fun v => if p_has (upd d (94 + 4 * ix k) (nI v)) k then 1 <<< (nI v &&& 31) else 0) i2)]) hx hb hml hown hts hX hC (m_X13_has (hw.putS (by omega) (by omega)) k hk) (lw_V q1487 q1489 qs67 q124 q1490) hdV_X13_has ⟨rfl, rfl⟩ ⟨Nat.le_of_ble_eq_true rfl, Nat.le_of_ble_eq_true rfl⟩ (fx_recv (g := 0) (i := 0) (ci := 0) (q := (RX13, TX13, 24)) hX hC (min_ (by decide)) rfl rfl) hl.1 rfl (Nat.le_of_ble_eq_true rfl) ⟨Nat.zero_le _, Nat.zero_le _⟩ dX13_good_36 (fun _ H locs hC => ?_)
      refine W.eq (g2 := F0 m 39 ls [.int (b2i (p_has (upd d (94 + 4 * ix k) (nI i2)) k)), .int (p_orr (fun v => if p_has (upd d (94 + 4 * ix k) (nI v)) k then 1 <<< (nI v &&& 31) else 0) i2)]) rfl ?_
      refine fw_join (C := p_has (upd d (94 + 4 * ix k) (nI i2)) k) (a := 1 <<< ((nI i2) &&& 31)) (b := 0) (pcj := 50) (ls := ls) (rest := [.int (p_orr (fun v => if p_has (upd d (94 + 4 * ix k) (nI v)) k then 1 <<< (nI v &&& 31) else 0) i2)]) (fun ja jb => ?_) ?_
      · refine fb_eq (tgt := 49) hx hb dX13_good_39 (by decide) (fun c_8 => ?_) (fun c_8 => ?_)
        · refine lv_iconst (v := 0) hx hb dX13_good_49 rfl ?_
          exact jb c_8
        · refine lv_iconst (v := 1) hx hb dX13_good_42 rfl ?_
          refine lv_iload hx hb dX13_good_43 (lv_at hl 6 rfl) ?_
          refine lv_ishl hx hb dX13_good_45 ?_
          refine lv_goto (tgt := 50) hx hb dX13_good_46 (by decide) ?_
          exact ja c_8
      refine lv_ior hx hb dX13_good_50 ?_
      refine lv_istore (lv' := [(5, .int ((p_orr (fun v => if p_has (upd d (94 + 4 * ix k) (nI v)) k then 1 <<< (nI v &&& 31) else 0) i2) ||| (if p_has (upd d (94 + 4 * ix k) (nI i2)) k then 1 <<< ((nI i2) &&& 31) else 0))), (0, .ref (G.ad 0 0)), (1, .int k), (2, .int 2), (3, .int 10), (4, .int (d (94 + 4 * ix k))), (6, .int (nI i2))]) hx hb dX13_good_51 hl (by decide) rfl (fun ls hl => ?_)
      refine lv_iinc (v := nI (i2 + 1)) (lv' := [(6, .int (nI (i2 + 1))), (5, .int ((p_orr (fun v => if p_has (upd d (94 + 4 * ix k) (nI v)) k then 1 <<< (nI v &&& 31) else 0) i2) ||| (if p_has (upd d (94 + 4 * ix k) (nI i2)) k then 1 <<< ((nI i2) &&& 31) else 0))), (0, .ref (G.ad 0 0)), (1, .int k), (2, .int 2), (3, .int 10), (4, .int (d (94 + 4 * ix k)))]) hx hb dX13_good_53 hl (k := 6) rfl (nI_1 _) (by decide) rfl (fun ls hl => ?_)
      refine lv_goto (tgt := 14) hx hb dX13_good_56 (by decide) ?_
      exact ih2 (i2 + 1) (by omega) _ _ _ _ hC ls (lv_sub hl [2, 3, 4, 5, 6, 1, 0] rfl)
  have hC := (congrArg (fun z => fC (mF G) (mct G (mpg z kp as bf sc fd tp it ws sz nu mv)) s.heap _ _) (upd_id d (94 + 4 * ix k))).mp hC
  exact L_2 10 0 (by omega) _ _ _ _ hC ls (lv_sub hl [3, 4, 5, 6, 2, 1, 0] rfl)
set_option maxRecDepth 100000 in
theorem m_X13_aims {l : Launch} {G : Gm} {d kp as bf sc fd tp it ws sz nu mv : Row} (hw : WF d) (k : Int32) : Cm l yX13_aims (ws_ yX13_aims cX13_aims 2 (some .long)) ({ frames := 6, cells := 0, slots := 0, locals := 133 }) (mF G) [.ref (G.ad 0 0), .int k] (mct G (mpg d kp as bf sc fd tp it ws sz nu mv)) (fun u : Row => some (.long ((s_aims d fd k).1))) (fun u => mct G (mpg d kp as u sc ((s_aims d fd k).2) tp it ws sz nu mv)) := by
  refine Cm.start (by decide) (Nat.le_of_ble_eq_true rfl) ?_
  intro p e s m below meth c hf hX hC ls hl
  obtain ⟨hx, hb, hr, hml, hown, hts, hlocks⟩ := hf
  have hl : lv_has ls 2 [(0, .ref (G.ad 0 0)), (1, .int k)] := hl
  have hown : s.vm.findClass "OwlEarsModel" = some m.cls := hown
  refine lv_aload_n hx hb dX13_aims_0 rfl (lv_at hl 0 rfl) ?_
  refine lv_iload_n hx hb dX13_aims_1 rfl (lv_at hl 1 rfl) ?_
  refine fc_V (As := [.int k]) (rest := []) hx hb hml hown hts hX hC (m_X13_isStrike k) (lw_V q1467 q1469 qs62 q124 q1470) hdV_X13_isStrike ⟨rfl, rfl⟩ ⟨Nat.le_of_ble_eq_true rfl, Nat.le_of_ble_eq_true rfl⟩ (fx_recv (g := 0) (i := 0) (ci := 0) (q := (RX13, TX13, 24)) hX hC (min_ (by decide)) rfl rfl) hl.1 rfl (Nat.le_of_ble_eq_true rfl) ⟨Nat.zero_le _, Nat.zero_le _⟩ dX13_aims_2 (fun _ H locs hC => ?_)
  refine W.eq (g2 := F0 m 5 ls [.int (b2i (p_in k 0 (d 1 - 1)))]) rfl ?_
  refine fb_eq (tgt := 16) hx hb dX13_aims_5 (by decide) (fun c_2 => ?_) (fun c_2 => ?_)
  · refine lv_aload_n hx hb dX13_aims_16 rfl (lv_at hl 0 rfl) ?_
    refine lv_ldc (v := (-1000001)) hx hb hown (hts _ q1403) dX13_aims_17 ?_
    refine fc_V (As := [.int (-1000001)]) (rest := []) hx hb hml hown hts hX hC (m_X13_finding 0 (vin_b rfl)) (lw_V q1404 q1406 qs56 q124 q1407) hdV_X13_finding ⟨rfl, rfl⟩ ⟨Nat.le_of_ble_eq_true rfl, Nat.le_of_ble_eq_true rfl⟩ (fx_recv (g := 0) (i := 0) (ci := 0) (q := (RX13, TX13, 24)) hX hC (min_ (by decide)) rfl rfl) hl.1 rfl (Nat.le_of_ble_eq_true rfl) ⟨Nat.zero_le _, Nat.zero_le _⟩ dX13_aims_19 (fun _ H locs hC => ?_)
    refine W.eq (g2 := F0 m 22 ls [.int (-1000001)]) rfl ?_
    refine lv_i2l (v := ((-1000001) : Int32).toInt64) hx hb dX13_aims_22 rfl ?_
    have hs : s_aims d fd k = ((((-1000001) : Int32).toInt64, p_find fd 0) : Int64 × Row) := by rw [s_aims, if_neg c_2]
    exact fr_l hx hb hr hlocks hX hC bf (congrArg (fun z => some (Value.long z)) (t2_1 hs)) (congrArg (fun z => mct G (mpg d kp as bf sc z tp it ws sz nu mv)) (t2_2 hs)).symm dX13_aims_23
  · refine lv_aload_n hx hb dX13_aims_8 rfl (lv_at hl 0 rfl) ?_
    refine lv_iload_n hx hb dX13_aims_9 rfl (lv_at hl 1 rfl) ?_
    refine fc_V (As := [.int k]) (rest := []) hx hb hml hown hts hX hC (m_X13_aimsOf hw k (kin_of hw c_2)) (lw_V q1622 q1624 qs83 q124 q1625) hdV_X13_aimsOf ⟨rfl, rfl⟩ ⟨Nat.le_of_ble_eq_true rfl, Nat.le_of_ble_eq_true rfl⟩ (fx_recv (g := 0) (i := 0) (ci := 0) (q := (RX13, TX13, 24)) hX hC (min_ (by decide)) rfl rfl) hl.1 rfl (Nat.le_of_ble_eq_true rfl) ⟨Nat.zero_le _, Nat.zero_le _⟩ dX13_aims_10 (fun u_3 H locs hC => ?_)
    refine W.eq (g2 := F0 m 13 ls [.long (lN (p_set (p_hasAt d k (93 + 4 * ix k)) 36))]) rfl ?_
    refine lv_goto (tgt := 23) hx hb dX13_aims_13 (by decide) ?_
    have hs : s_aims d fd k = ((lN (p_set (p_hasAt d k (93 + 4 * ix k)) 36), fd) : Int64 × Row) := by rw [s_aims, if_pos c_2, p_all, p_orl_set (p_hasAt d k (93 + 4 * ix k)) 36 (by decide)]
    exact fr_l hx hb hr hlocks hX hC u_3 (congrArg (fun z => some (Value.long z)) (t2_1 hs)) (congrArg (fun z => mct G (mpg d kp as u_3 sc z tp it ws sz nu mv)) (t2_2 hs)).symm dX13_aims_23
set_option maxRecDepth 100000 in
theorem m_X13_kinds {l : Launch} {G : Gm} {d kp as bf sc fd tp it ws sz nu mv : Row} (hw : WF d) (k : Int32) : Cm l yX13_kinds (ws_ yX13_kinds cX13_kinds 2 (some .int)) ({ frames := 6, cells := 0, slots := 0, locals := 134 }) (mF G) [.ref (G.ad 0 0), .int k] (mct G (mpg d kp as bf sc fd tp it ws sz nu mv)) (fun u : Row => some (.int ((s_kinds d fd k).1))) (fun u => mct G (mpg d kp as u sc ((s_kinds d fd k).2) tp it ws sz nu mv)) := by
  refine Cm.start (by decide) (Nat.le_of_ble_eq_true rfl) ?_
  intro p e s m below meth c hf hX hC ls hl
  obtain ⟨hx, hb, hr, hml, hown, hts, hlocks⟩ := hf
  have hl : lv_has ls 2 [(0, .ref (G.ad 0 0)), (1, .int k)] := hl
  have hown : s.vm.findClass "OwlEarsModel" = some m.cls := hown
  refine lv_aload_n hx hb dX13_kinds_0 rfl (lv_at hl 0 rfl) ?_
  refine lv_iload_n hx hb dX13_kinds_1 rfl (lv_at hl 1 rfl) ?_
  refine fc_V (As := [.int k]) (rest := []) hx hb hml hown hts hX hC (m_X13_isStrike k) (lw_V q1467 q1469 qs62 q124 q1470) hdV_X13_isStrike ⟨rfl, rfl⟩ ⟨Nat.le_of_ble_eq_true rfl, Nat.le_of_ble_eq_true rfl⟩ (fx_recv (g := 0) (i := 0) (ci := 0) (q := (RX13, TX13, 24)) hX hC (min_ (by decide)) rfl rfl) hl.1 rfl (Nat.le_of_ble_eq_true rfl) ⟨Nat.zero_le _, Nat.zero_le _⟩ dX13_kinds_2 (fun _ H locs hC => ?_)
  refine W.eq (g2 := F0 m 5 ls [.int (b2i (p_in k 0 (d 1 - 1)))]) rfl ?_
  refine fb_eq (tgt := 19) hx hb dX13_kinds_5 (by decide) (fun c_2 => ?_) (fun c_2 => ?_)
  · refine lv_aload_n hx hb dX13_kinds_19 rfl (lv_at hl 0 rfl) ?_
    refine lv_ldc (v := (-1000001)) hx hb hown (hts _ q1403) dX13_kinds_20 ?_
    refine fc_V (As := [.int (-1000001)]) (rest := []) hx hb hml hown hts hX hC (m_X13_finding 0 (vin_b rfl)) (lw_V q1404 q1406 qs56 q124 q1407) hdV_X13_finding ⟨rfl, rfl⟩ ⟨Nat.le_of_ble_eq_true rfl, Nat.le_of_ble_eq_true rfl⟩ (fx_recv (g := 0) (i := 0) (ci := 0) (q := (RX13, TX13, 24)) hX hC (min_ (by decide)) rfl rfl) hl.1 rfl (Nat.le_of_ble_eq_true rfl) ⟨Nat.zero_le _, Nat.zero_le _⟩ dX13_kinds_22 (fun _ H locs hC => ?_)
    refine W.eq (g2 := F0 m 25 ls [.int (-1000001)]) rfl ?_
    have hs : s_kinds d fd k = (((-1000001), p_find fd 0) : Int32 × Row) := by rw [s_kinds, if_neg c_2]
    exact fr_i hx hb hr hlocks hX hC bf (congrArg (fun z => some (Value.int z)) (t2_1 hs)) (congrArg (fun z => mct G (mpg d kp as bf sc z tp it ws sz nu mv)) (t2_2 hs)).symm dX13_kinds_25
  · refine lv_aload_n hx hb dX13_kinds_8 rfl (lv_at hl 0 rfl) ?_
    refine lv_iload_n hx hb dX13_kinds_9 rfl (lv_at hl 1 rfl) ?_
    refine lv_iconst (v := 0) hx hb dX13_kinds_10 rfl ?_
    refine lv_bipush (v := 7) hx hb dX13_kinds_11 rfl ?_
    refine fc_V (As := [.int k, .int 0, .int 7]) (rest := []) hx hb hml hown hts hX hC (m_X13_good_0 hw k (kin_of hw c_2)) (lw_V q1634 q1636 qs84 q124 q1637) hdV_X13_good ⟨rfl, rfl⟩ ⟨Nat.le_of_ble_eq_true rfl, Nat.le_of_ble_eq_true rfl⟩ (fx_recv (g := 0) (i := 0) (ci := 0) (q := (RX13, TX13, 24)) hX hC (min_ (by decide)) rfl rfl) hl.1 rfl (Nat.le_of_ble_eq_true rfl) ⟨Nat.zero_le _, Nat.zero_le _⟩ dX13_kinds_13 (fun u_3 H locs hC => ?_)
    refine W.eq (g2 := F0 m 16 ls [.int (nI (p_set (p_hasAt d k (92 + 4 * ix k)) 7))]) rfl ?_
    refine lv_goto (tgt := 25) hx hb dX13_kinds_16 (by decide) ?_
    have hs : s_kinds d fd k = ((nI (p_set (p_hasAt d k (92 + 4 * ix k)) 7), fd) : Int32 × Row) := by rw [s_kinds, if_pos c_2, p_all, p_orl_set (p_hasAt d k (92 + 4 * ix k)) 7 (by decide), lN_i]
    exact fr_i hx hb hr hlocks hX hC u_3 (congrArg (fun z => some (Value.int z)) (t2_1 hs)) (congrArg (fun z => mct G (mpg d kp as u_3 sc z tp it ws sz nu mv)) (t2_2 hs)).symm dX13_kinds_25
set_option maxRecDepth 100000 in
theorem m_X13_bits {l : Launch} {F : Fam} {ct : Ct} (q : Nat) (hq : q < 1024) : Cm l yX13_bits (ws_ yX13_bits cX13_bits 3 (some .int)) ({ frames := 0, cells := 0, slots := 0, locals := 0 }) F [.int (nI q)] ct (fun _ : Unit => some (.int (nI (p_pop q)))) (fun _ => ct) := by
  refine Cm.start (by decide) (Nat.le_of_ble_eq_true rfl) ?_
  intro p e s m below meth c hf hX hC ls hl
  obtain ⟨hx, hb, hr, hml, hown, hts, hlocks⟩ := hf
  have hl : lv_has ls 3 [(0, .int (nI q))] := hl
  refine lv_iconst (v := 0) hx hb dX13_bits_0 rfl ?_
  refine lv_istore_n (lv' := [(1, .int 0), (0, .int (nI q))]) hx hb dX13_bits_1 rfl hl (by decide) rfl (fun ls hl => ?_)
  refine lv_iload_n hx hb dX13_bits_2 rfl (lv_at hl 1 rfl) ?_
  refine lv_istore_n (lv' := [(2, .int (nI q)), (1, .int 0), (0, .int (nI q))]) hx hb dX13_bits_3 rfl hl (by decide) rfl (fun ls hl => ?_)
  have L : ∀ (k a n : Nat), a < 1024 → p_pop a = k → n + p_pop a = p_pop q → ∀ ls : Array Slot, lv_has ls 3 [(2, .int (nI a)), (1, .int (nI n)), (0, .int (nI q))] → WG p l e ({ frames := 0, cells := 0, slots := 0, locals := 0 }) s m (([.int (nI q)] : List Value).toArray) below meth c s.heap [] F (fun _ : Unit => some (.int (nI (p_pop q)))) (fun _ => ct) (F0 m 4 ls []) := by
    intro k
    induction k with
    | zero =>
      intro a n ha hk hn ls hl
      have a0 : a = 0 := by
        have key : ∀ a, a < 1024 → p_pop a = 0 → a = 0 := by decide +kernel
        exact key a ha hk
      subst a0
      refine lv_iload_n hx hb dX13_bits_4 rfl (lv_at hl 0 rfl) ?_
      refine lv_if_eq (tgt := 20) hx hb dX13_bits_5 (by decide) (fun _ => ?_) (fun z => absurd nI_0 z)
      refine lv_iload_n hx hb dX13_bits_20 rfl (lv_at hl 1 rfl) ?_
      have en : n = p_pop q := by omega
      subst en
      exact fr_i hx hb hr hlocks hX hC () rfl rfl dX13_bits_21
    | succ k ih =>
      intro a n ha hk hn ls hl
      have a0 : ¬ a = 0 := by
        intro z
        subst z
        exact absurd hk (by simp [p_pop])
      have hs := pop_step a ha a0
      have e1 : nI a &&& (nI a - 1) = nI (a &&& (a - 1)) := by
        have : nI a - 1 = nI (a - 1) := by
          have z : a = (a - 1) + 1 := by omega
          rw [z]
          exact nI_pred (a - 1)
        rw [this, nx_and]
      refine lv_iload_n hx hb dX13_bits_4 rfl (lv_at hl 0 rfl) ?_
      refine lv_if_eq (tgt := 20) hx hb dX13_bits_5 (by decide) (fun z => absurd z (nI_ne0 (by omega) (by omega))) (fun _ => ?_)
      refine lv_iinc (v := nI (n + 1)) (lv' := [(1, .int (nI (n + 1))), (2, .int (nI a)), (0, .int (nI q))]) hx hb dX13_bits_8 hl (k := 1) rfl (nI_1 _) (by decide) rfl (fun ls hl => ?_)
      refine lv_iload_n hx hb dX13_bits_11 rfl (lv_at hl 1 rfl) ?_
      refine lv_iload_n hx hb dX13_bits_12 rfl (lv_at hl 1 rfl) ?_
      refine lv_iconst (v := 1) hx hb dX13_bits_13 rfl ?_
      refine lv_isub hx hb dX13_bits_14 ?_
      refine lv_iand hx hb dX13_bits_15 ?_
      rw [e1]
      refine lv_istore_n (lv' := [(2, .int (nI (a &&& (a - 1)))), (1, .int (nI (n + 1))), (0, .int (nI q))]) hx hb dX13_bits_16 rfl hl (by decide) rfl (fun ls hl => ?_)
      refine lv_goto (tgt := 4) hx hb dX13_bits_17 (by decide) ?_
      exact ih (a &&& (a - 1)) (n + 1) (Nat.lt_of_le_of_lt Nat.and_le_left ha) (by omega) (by omega) ls hl
  exact L (p_pop q) q 0 hq rfl (by omega) ls hl
set_option maxRecDepth 100000 in
theorem m_X13_waitFor {l : Launch} {G : Gm} {d kp as bf sc fd tp it ws sz nu mv : Row} (hw : WF d) (k : Int32) : Cm l yX13_waitFor (ws_ yX13_waitFor cX13_waitFor 3 (some .int)) ({ frames := 6, cells := 0, slots := 0, locals := 134 }) (mF G) [.ref (G.ad 0 0), .int k] (mct G (mpg d kp as bf sc fd tp it ws sz nu mv)) (fun u : Row => some (.int ((s_wait d fd k).1))) (fun u => mct G (mpg d kp as u sc ((s_wait d fd k).2) tp it ws sz nu mv)) := by
  refine Cm.start (by decide) (Nat.le_of_ble_eq_true rfl) ?_
  intro p e s m below meth c hf hX hC ls hl
  obtain ⟨hx, hb, hr, hml, hown, hts, hlocks⟩ := hf
  have hl : lv_has ls 3 [(0, .ref (G.ad 0 0)), (1, .int k)] := hl
  have hown : s.vm.findClass "OwlEarsModel" = some m.cls := hown
  refine lv_aload_n hx hb dX13_waitFor_0 rfl (lv_at hl 0 rfl) ?_
  refine lv_iload_n hx hb dX13_waitFor_1 rfl (lv_at hl 1 rfl) ?_
  refine fc_V (As := [.int k]) (rest := []) hx hb hml hown hts hX hC (m_X13_isStrike k) (lw_V q1467 q1469 qs62 q124 q1470) hdV_X13_isStrike ⟨rfl, rfl⟩ ⟨Nat.le_of_ble_eq_true rfl, Nat.le_of_ble_eq_true rfl⟩ (fx_recv (g := 0) (i := 0) (ci := 0) (q := (RX13, TX13, 24)) hX hC (min_ (by decide)) rfl rfl) hl.1 rfl (Nat.le_of_ble_eq_true rfl) ⟨Nat.zero_le _, Nat.zero_le _⟩ dX13_waitFor_2 (fun _ H locs hC => ?_)
  refine W.eq (g2 := F0 m 5 ls [.int (b2i (p_in k 0 (d 1 - 1)))]) rfl ?_
  refine fb_ne (tgt := 15) hx hb dX13_waitFor_5 (by decide) (fun c_2 => ?_) (fun c_2 => ?_)
  · refine lv_aload_n hx hb dX13_waitFor_15 rfl (lv_at hl 0 rfl) ?_
    refine lv_iload_n hx hb dX13_waitFor_16 rfl (lv_at hl 1 rfl) ?_
    refine lv_iconst (v := 2) hx hb dX13_waitFor_17 rfl ?_
    refine lv_bipush (v := 10) hx hb dX13_waitFor_18 rfl ?_
    refine fc_V (As := [.int k, .int 2, .int 10]) (rest := []) hx hb hml hown hts hX hC (m_X13_good_2 hw k (kin_of hw c_2)) (lw_V q1634 q1636 qs84 q124 q1637) hdV_X13_good ⟨rfl, rfl⟩ ⟨Nat.le_of_ble_eq_true rfl, Nat.le_of_ble_eq_true rfl⟩ (fx_recv (g := 0) (i := 0) (ci := 0) (q := (RX13, TX13, 24)) hX hC (min_ (by decide)) rfl rfl) hl.1 rfl (Nat.le_of_ble_eq_true rfl) ⟨Nat.zero_le _, Nat.zero_le _⟩ dX13_waitFor_20 (fun u_3 H locs hC => ?_)
    refine W.eq (g2 := F0 m 23 ls [.int (nI (p_set (p_hasAt d k (94 + 4 * ix k)) 10))]) rfl ?_
    refine lv_istore_n (lv' := [(2, .int (nI (p_set (p_hasAt d k (94 + 4 * ix k)) 10))), (0, .ref (G.ad 0 0)), (1, .int k)]) hx hb dX13_waitFor_23 rfl hl (by decide) rfl (fun ls hl => ?_)
    refine lv_iload_n hx hb dX13_waitFor_24 rfl (lv_at hl 0 rfl) ?_
    refine lv_if_ne (tgt := 37) hx hb dX13_waitFor_25 (by decide) (fun c_4 => ?_) (fun c_4 => ?_)
    · refine lv_iload_n hx hb dX13_waitFor_37 rfl (lv_at hl 0 rfl) ?_
      refine lv_iload_n hx hb dX13_waitFor_38 rfl (lv_at hl 0 rfl) ?_
      refine lv_ineg hx hb dX13_waitFor_39 ?_
      refine lv_iand hx hb dX13_waitFor_40 ?_
      refine lv_iconst (v := 1) hx hb dX13_waitFor_41 rfl ?_
      refine lv_isub hx hb dX13_waitFor_42 ?_
      rw [(wait_bits (p_set (p_hasAt d k (94 + 4 * ix k)) 10) (p_set_lt _ 10) (fun z => c_4 (set10.mpr z))).1]
      refine fc_S (As := [.int (nI (((p_set (p_hasAt d k (94 + 4 * ix k)) 10) ^^^ ((p_set (p_hasAt d k (94 + 4 * ix k)) 10) - 1)) / 2))]) (rest := []) hx hb hml hown hts hX hC (m_X13_bits (((p_set (p_hasAt d k (94 + 4 * ix k)) 10) ^^^ ((p_set (p_hasAt d k (94 + 4 * ix k)) 10) - 1)) / 2) (wait_bits (p_set (p_hasAt d k (94 + 4 * ix k)) 10) (p_set_lt _ 10) (fun z => c_4 (set10.mpr z))).2.1) (lw_S q1642 q1643 q124 q1644) hdS_X13_bits ⟨rfl, rfl⟩ ⟨Nat.le_of_ble_eq_true rfl, Nat.le_of_ble_eq_true rfl⟩ hl.1 rfl (Nat.le_of_ble_eq_true rfl) ⟨Nat.zero_le _, Nat.zero_le _⟩ dX13_waitFor_43 (fun _ H locs hC => ?_)
      refine W.eq (g2 := F0 m 46 ls [.int (nI (p_pop (((p_set (p_hasAt d k (94 + 4 * ix k)) 10) ^^^ ((p_set (p_hasAt d k (94 + 4 * ix k)) 10) - 1)) / 2)))]) rfl ?_
      have hs : s_wait d fd k = ((nI (p_pop (((p_set (p_hasAt d k (94 + 4 * ix k)) 10) ^^^ ((p_set (p_hasAt d k (94 + 4 * ix k)) 10) - 1)) / 2)), fd) : Int32 × Row) := by rw [s_wait, if_pos c_2, wait_some (fun z => c_4 (set10.mpr z)), p_none, if_neg (nI_ne1 (pop_lt _))]
      exact fr_i hx hb hr hlocks hX hC u_3 (congrArg (fun z => some (Value.int z)) (t2_1 hs)) (congrArg (fun z => mct G (mpg d kp as u_3 sc z tp it ws sz nu mv)) (t2_2 hs)).symm dX13_waitFor_46
    · refine lv_aload_n hx hb dX13_waitFor_28 rfl (lv_at hl 1 rfl) ?_
      refine lv_ldc (v := (-1000004)) hx hb hown (hts _ q1570) dX13_waitFor_29 ?_
      refine fc_V (As := [.int (-1000004)]) (rest := []) hx hb hml hown hts hX hC (m_X13_finding 3 (vin_b rfl)) (lw_V q1404 q1406 qs56 q124 q1407) hdV_X13_finding ⟨rfl, rfl⟩ ⟨Nat.le_of_ble_eq_true rfl, Nat.le_of_ble_eq_true rfl⟩ (fx_recv (g := 0) (i := 0) (ci := 0) (q := (RX13, TX13, 24)) hX hC (min_ (by decide)) rfl rfl) hl.1 rfl (Nat.le_of_ble_eq_true rfl) ⟨Nat.zero_le _, Nat.zero_le _⟩ dX13_waitFor_31 (fun _ H locs hC => ?_)
      refine W.eq (g2 := F0 m 34 ls [.int (-1000004)]) rfl ?_
      refine lv_goto (tgt := 46) hx hb dX13_waitFor_34 (by decide) ?_
      have hs : s_wait d fd k = (((-1000004), p_find fd 3) : Int32 × Row) := by rw [s_wait, if_pos c_2, fst_none (set10.mp c_4)]; rfl
      exact fr_i hx hb hr hlocks hX hC u_3 (congrArg (fun z => some (Value.int z)) (t2_1 hs)) (congrArg (fun z => mct G (mpg d kp as u_3 sc z tp it ws sz nu mv)) (t2_2 hs)).symm dX13_waitFor_46
  · refine lv_aload_n hx hb dX13_waitFor_8 rfl (lv_at hl 0 rfl) ?_
    refine lv_ldc (v := (-1000001)) hx hb hown (hts _ q1403) dX13_waitFor_9 ?_
    refine fc_V (As := [.int (-1000001)]) (rest := []) hx hb hml hown hts hX hC (m_X13_finding 0 (vin_b rfl)) (lw_V q1404 q1406 qs56 q124 q1407) hdV_X13_finding ⟨rfl, rfl⟩ ⟨Nat.le_of_ble_eq_true rfl, Nat.le_of_ble_eq_true rfl⟩ (fx_recv (g := 0) (i := 0) (ci := 0) (q := (RX13, TX13, 24)) hX hC (min_ (by decide)) rfl rfl) hl.1 rfl (Nat.le_of_ble_eq_true rfl) ⟨Nat.zero_le _, Nat.zero_le _⟩ dX13_waitFor_11 (fun _ H locs hC => ?_)
    refine W.eq (g2 := F0 m 14 ls [.int (-1000001)]) rfl ?_
    have hs : s_wait d fd k = (((-1000001), p_find fd 0) : Int32 × Row) := by rw [s_wait, if_neg c_2]
    exact fr_i hx hb hr hlocks hX hC bf (congrArg (fun z => some (Value.int z)) (t2_1 hs)) (congrArg (fun z => mct G (mpg d kp as bf sc z tp it ws sz nu mv)) (t2_2 hs)).symm dX13_waitFor_14
set_option maxRecDepth 100000 in
theorem m_X13_aim {l : Launch} {G : Gm} {d kp as bf sc fd tp it ws sz nu mv : Row} (hw : WF d) (k : Int32) : Cm l yX13_aim (ws_ yX13_aim cX13_aim 5 (some .int)) ({ frames := 6, cells := 0, slots := 0, locals := 133 }) (mF G) [.ref (G.ad 0 0), .int k] (mct G (mpg d kp as bf sc fd tp it ws sz nu mv)) (fun u : Row => some (.int ((s_aim d fd k).1))) (fun u => mct G (mpg d kp as u sc ((s_aim d fd k).2) tp it ws sz nu mv)) := by
  refine Cm.start (by decide) (Nat.le_of_ble_eq_true rfl) ?_
  intro p e s m below meth c hf hX hC ls hl
  obtain ⟨hx, hb, hr, hml, hown, hts, hlocks⟩ := hf
  have hl : lv_has ls 5 [(0, .ref (G.ad 0 0)), (1, .int k)] := hl
  have hown : s.vm.findClass "OwlEarsModel" = some m.cls := hown
  refine lv_aload_n hx hb dX13_aim_0 rfl (lv_at hl 0 rfl) ?_
  refine lv_iload_n hx hb dX13_aim_1 rfl (lv_at hl 1 rfl) ?_
  refine fc_V (As := [.int k]) (rest := []) hx hb hml hown hts hX hC (m_X13_isStrike k) (lw_V q1467 q1469 qs62 q124 q1470) hdV_X13_isStrike ⟨rfl, rfl⟩ ⟨Nat.le_of_ble_eq_true rfl, Nat.le_of_ble_eq_true rfl⟩ (fx_recv (g := 0) (i := 0) (ci := 0) (q := (RX13, TX13, 24)) hX hC (min_ (by decide)) rfl rfl) hl.1 rfl (Nat.le_of_ble_eq_true rfl) ⟨Nat.zero_le _, Nat.zero_le _⟩ dX13_aim_2 (fun _ H locs hC => ?_)
  refine W.eq (g2 := F0 m 5 ls [.int (b2i (p_in k 0 (d 1 - 1)))]) rfl ?_
  refine fb_ne (tgt := 15) hx hb dX13_aim_5 (by decide) (fun c_2 => ?_) (fun c_2 => ?_)
  · refine lv_aload_n hx hb dX13_aim_15 rfl (lv_at hl 0 rfl) ?_
    refine lv_iload_n hx hb dX13_aim_16 rfl (lv_at hl 1 rfl) ?_
    refine fc_V (As := [.int k]) (rest := []) hx hb hml hown hts hX hC (m_X13_aimsOf hw k (kin_of hw c_2)) (lw_V q1622 q1624 qs83 q124 q1625) hdV_X13_aimsOf ⟨rfl, rfl⟩ ⟨Nat.le_of_ble_eq_true rfl, Nat.le_of_ble_eq_true rfl⟩ (fx_recv (g := 0) (i := 0) (ci := 0) (q := (RX13, TX13, 24)) hX hC (min_ (by decide)) rfl rfl) hl.1 rfl (Nat.le_of_ble_eq_true rfl) ⟨Nat.zero_le _, Nat.zero_le _⟩ dX13_aim_17 (fun u_3 H locs hC => ?_)
    refine W.eq (g2 := F0 m 20 ls [.long (lN (p_set (p_hasAt d k (93 + 4 * ix k)) 36))]) rfl ?_
    refine lv_lstore_n (lv' := [(2, .long (lN (p_set (p_hasAt d k (93 + 4 * ix k)) 36))), (0, .ref (G.ad 0 0)), (1, .int k)]) hx hb dX13_aim_20 rfl hl (by decide) rfl (fun ls hl => ?_)
    refine lv_iconst (v := 0) hx hb dX13_aim_21 rfl ?_
    refine lv_istore (lv' := [(4, .int 0), (2, .long (lN (p_set (p_hasAt d k (93 + 4 * ix k)) 36))), (0, .ref (G.ad 0 0)), (1, .int k)]) hx hb dX13_aim_22 hl (by decide) rfl (fun ls hl => ?_)
    have L_4 : ∀ (k4 i4 : Nat), i4 + k4 = 36 → p_fst (p_hasAt d k (93 + 4 * ix k)) 36 0 = p_fst (p_hasAt d k (93 + 4 * ix k)) k4 i4 → ∀ (H : Heap) (locs : List Loc), fC (mF G) (mct G (mpg d kp as u_3 sc fd tp it ws sz nu mv)) s.heap H locs → ∀ ls : Array Slot, lv_has ls 5 [(4, .int (nI i4)), (2, .long (lN (p_set (p_hasAt d k (93 + 4 * ix k)) 36))), (0, .ref (G.ad 0 0)), (1, .int k)] → WG p l e ({ frames := 6, cells := 0, slots := 0, locals := 133 }) s m (([.ref (G.ad 0 0), .int k] : List Value).toArray) below meth c H locs (mF G) (fun u : Row => some (.int ((s_aim d fd k).1))) (fun u => mct G (mpg d kp as u sc ((s_aim d fd k).2) tp it ws sz nu mv)) (F0 m 24 ls []) := by
      intro k4
      induction k4 with
      | zero =>
        intro i4 hi4 hJ4 H locs hC ls hl
        obtain rfl : i4 = 36 := by omega
        refine lv_iload hx hb dX13_aim_24 (lv_at hl 0 rfl) ?_
        refine lv_bipush (v := 36) hx hb dX13_aim_26 rfl ?_
        refine fj_ge (tgt := 48) hx hb dX13_aim_28 (by decide) (fun _ => ?_) (fun z_5 => absurd z_5 (by decide))
        refine lv_aload_n hx hb dX13_aim_48 rfl (lv_at hl 2 rfl) ?_
        refine lv_iload hx hb dX13_aim_49 (lv_at hl 0 rfl) ?_
        refine lv_bipush (v := 36) hx hb dX13_aim_51 rfl ?_
        refine fj_ge (tgt := 61) hx hb dX13_aim_53 (by decide) (fun _ => ?_) (fun z_6 => absurd z_6 (by decide))
        refine lv_iconst (v := (-1)) hx hb dX13_aim_61 rfl ?_
        refine fc_V (As := [.int (-1)]) (rest := []) hx hb hml hown hts hX hC (m_X13_orNone (-1)) (lw_V q1594 q1596 qs81 q124 q1597) hdV_X13_orNone ⟨rfl, rfl⟩ ⟨Nat.le_of_ble_eq_true rfl, Nat.le_of_ble_eq_true rfl⟩ (fx_recv (g := 0) (i := 0) (ci := 0) (q := (RX13, TX13, 24)) hX hC (min_ (by decide)) rfl rfl) hl.1 rfl (Nat.le_of_ble_eq_true rfl) ⟨Nat.zero_le _, Nat.zero_le _⟩ dX13_aim_62 (fun _ H locs hC => ?_)
        refine W.eq (g2 := F0 m 65 ls [.int (if (-1) < 0 then -1000004 else (-1))]) rfl ?_
        have hs : s_aim d fd k = ((if (-1) < 0 then -1000004 else (-1), if (-1) < 0 then p_find fd 3 else fd) : Int32 × Row) := by have hz : p_fst (p_hasAt d k (93 + 4 * ix k)) 36 0 = -1 := hJ4; rw [s_aim, if_pos c_2, hz]; rfl
        exact fr_i hx hb hr hlocks hX hC u_3 (congrArg (fun z => some (Value.int z)) (t2_1 hs)) (congrArg (fun z => mct G (mpg d kp as u_3 sc z tp it ws sz nu mv)) (t2_2 hs)).symm dX13_aim_65
      | succ k4 ih4 =>
        intro i4 hi4 hJ4 H locs hC ls hl
        refine lv_iload hx hb dX13_aim_24 (lv_at hl 0 rfl) ?_
        refine lv_bipush (v := 36) hx hb dX13_aim_26 rfl ?_
        refine fj_ge (tgt := 48) hx hb dX13_aim_28 (by decide) (fun z_8 => absurd (nI_lt (a := i4) (b := 36) (by omega) (by decide)) z_8) (fun _ => ?_)
        refine lv_lload_n hx hb dX13_aim_31 rfl (lv_at hl 1 rfl) ?_
        refine lv_iload hx hb dX13_aim_32 (lv_at hl 0 rfl) ?_
        refine lv_lshr (v := (lN (p_set (p_hasAt d k (93 + 4 * ix k)) 36)) >>> ((nI i4).toInt64 &&& 63)) hx hb dX13_aim_34 rfl ?_
        refine lv_lconst (v := 1) hx hb dX13_aim_35 rfl ?_
        refine lv_land hx hb dX13_aim_36 ?_
        refine lv_lconst (v := 0) hx hb dX13_aim_37 rfl ?_
        refine W.lcmp hx hb dX13_aim_38 ?_
        refine lv_if_ne (tgt := 48) hx hb dX13_aim_39 (by decide) (fun c_9 => ?_) (fun c_9 => ?_)
        · refine lv_aload_n hx hb dX13_aim_48 rfl (lv_at hl 2 rfl) ?_
          refine lv_iload hx hb dX13_aim_49 (lv_at hl 0 rfl) ?_
          refine lv_bipush (v := 36) hx hb dX13_aim_51 rfl ?_
          refine fj_ge (tgt := 61) hx hb dX13_aim_53 (by decide) (fun z_10 => absurd (nI_lt (a := i4) (b := 36) (by omega) (by decide)) z_10) (fun _ => ?_)
          refine lv_iload hx hb dX13_aim_56 (lv_at hl 0 rfl) ?_
          refine lv_goto (tgt := 62) hx hb dX13_aim_58 (by decide) ?_
          refine fc_V (As := [.int (nI i4)]) (rest := []) hx hb hml hown hts hX hC (m_X13_orNone (nI i4)) (lw_V q1594 q1596 qs81 q124 q1597) hdV_X13_orNone ⟨rfl, rfl⟩ ⟨Nat.le_of_ble_eq_true rfl, Nat.le_of_ble_eq_true rfl⟩ (fx_recv (g := 0) (i := 0) (ci := 0) (q := (RX13, TX13, 24)) hX hC (min_ (by decide)) rfl rfl) hl.1 rfl (Nat.le_of_ble_eq_true rfl) ⟨Nat.zero_le _, Nat.zero_le _⟩ dX13_aim_62 (fun _ H locs hC => ?_)
          refine W.eq (g2 := F0 m 65 ls [.int (if (nI i4) < 0 then -1000004 else (nI i4))]) rfl ?_
          have hs : s_aim d fd k = ((if (nI i4) < 0 then -1000004 else (nI i4), if (nI i4) < 0 then p_find fd 3 else fd) : Int32 × Row) := by have hz : p_fst (p_hasAt d k (93 + 4 * ix k)) 36 0 = nI i4 := hJ4.trans (p_fst_t (Classical.not_not.mp (fun z => c_9 ((bit_at (by decide) (by omega)).mpr z)))); rw [s_aim, if_pos c_2, hz, p_none, if_neg (nI_ne1 (by omega))]; simp [nI_pos (n := i4) (by omega)]
          exact fr_i hx hb hr hlocks hX hC u_3 (congrArg (fun z => some (Value.int z)) (t2_1 hs)) (congrArg (fun z => mct G (mpg d kp as u_3 sc z tp it ws sz nu mv)) (t2_2 hs)).symm dX13_aim_65
        · refine lv_iinc (v := nI (i4 + 1)) (lv' := [(4, .int (nI (i4 + 1))), (2, .long (lN (p_set (p_hasAt d k (93 + 4 * ix k)) 36))), (0, .ref (G.ad 0 0)), (1, .int k)]) hx hb dX13_aim_42 hl (k := 0) rfl (nI_1 _) (by decide) rfl (fun ls hl => ?_)
          refine lv_goto (tgt := 24) hx hb dX13_aim_45 (by decide) ?_
          exact ih4 (i4 + 1) (by omega) (hJ4.trans (p_fst_f ((bit_at (by decide) (by omega)).mp c_9))) _ _ hC ls (lv_sub hl [0, 1, 2, 3] rfl)
    exact L_4 36 0 rfl rfl _ _ hC ls (lv_sub hl [0, 1, 2, 3] rfl)
  · refine lv_aload_n hx hb dX13_aim_8 rfl (lv_at hl 0 rfl) ?_
    refine lv_ldc (v := (-1000001)) hx hb hown (hts _ q1403) dX13_aim_9 ?_
    refine fc_V (As := [.int (-1000001)]) (rest := []) hx hb hml hown hts hX hC (m_X13_finding 0 (vin_b rfl)) (lw_V q1404 q1406 qs56 q124 q1407) hdV_X13_finding ⟨rfl, rfl⟩ ⟨Nat.le_of_ble_eq_true rfl, Nat.le_of_ble_eq_true rfl⟩ (fx_recv (g := 0) (i := 0) (ci := 0) (q := (RX13, TX13, 24)) hX hC (min_ (by decide)) rfl rfl) hl.1 rfl (Nat.le_of_ble_eq_true rfl) ⟨Nat.zero_le _, Nat.zero_le _⟩ dX13_aim_11 (fun _ H locs hC => ?_)
    refine W.eq (g2 := F0 m 14 ls [.int (-1000001)]) rfl ?_
    have hs : s_aim d fd k = (((-1000001), p_find fd 0) : Int32 × Row) := by rw [s_aim, if_neg c_2]
    exact fr_i hx hb hr hlocks hX hC bf (congrArg (fun z => some (Value.int z)) (t2_1 hs)) (congrArg (fun z => mct G (mpg d kp as bf sc z tp it ws sz nu mv)) (t2_2 hs)).symm dX13_aim_14
set_option maxRecDepth 100000 in
theorem m_X13_best {l : Launch} {G : Gm} {d kp as bf sc fd tp it ws sz nu mv : Row} (hw : WF d) (n : Int32) : Cm l yX13_best (ws_ yX13_best cX13_best 6 (some .int)) ({ frames := 6, cells := 0, slots := 0, locals := 132 }) (mF G) [.ref (G.ad 0 0), .int n] (mct G (mpg d kp as bf sc fd tp it ws sz nu mv)) (fun u : Row × Row => some (.int ((s_best d fd n).1))) (fun u => mct G (mpg d kp u.1 u.2 sc ((s_best d fd n).2) tp it ws sz nu mv)) := by
  refine Cm.start (by decide) (Nat.le_of_ble_eq_true rfl) ?_
  intro p e s m below meth c hf hX hC ls hl
  obtain ⟨hx, hb, hr, hml, hown, hts, hlocks⟩ := hf
  have hl : lv_has ls 6 [(0, .ref (G.ad 0 0)), (1, .int n)] := hl
  have hown : s.vm.findClass "OwlEarsModel" = some m.cls := hown
  refine lv_iload_n hx hb dX13_best_0 rfl (lv_at hl 1 rfl) ?_
  refine fc_S (As := [.int n]) (rest := []) hx hb hml hown hts hX hC (m_X13_isLooked n) (lw_S q1649 q1650 q124 q1651) hdS_X13_isLooked ⟨rfl, rfl⟩ ⟨Nat.le_of_ble_eq_true rfl, Nat.le_of_ble_eq_true rfl⟩ hl.1 rfl (Nat.le_of_ble_eq_true rfl) ⟨Nat.zero_le _, Nat.zero_le _⟩ dX13_best_1 (fun _ H locs hC => ?_)
  refine W.eq (g2 := F0 m 4 ls [.int (b2i (p_in n 0 100))]) rfl ?_
  refine fb_ne (tgt := 14) hx hb dX13_best_4 (by decide) (fun c_2 => ?_) (fun c_2 => ?_)
  · refine lv_iconst (v := (-1)) hx hb dX13_best_14 rfl ?_
    refine lv_istore_n (lv' := [(2, .int (-1)), (0, .ref (G.ad 0 0)), (1, .int n)]) hx hb dX13_best_15 rfl hl (by decide) rfl (fun ls hl => ?_)
    refine lv_iconst (v := (-1)) hx hb dX13_best_16 rfl ?_
    refine lv_istore_n (lv' := [(3, .int (-1)), (2, .int (-1)), (0, .ref (G.ad 0 0)), (1, .int n)]) hx hb dX13_best_17 rfl hl (by decide) rfl (fun ls hl => ?_)
    refine lv_iconst (v := 0) hx hb dX13_best_18 rfl ?_
    refine lv_istore (lv' := [(4, .int 0), (3, .int (-1)), (2, .int (-1)), (0, .ref (G.ad 0 0)), (1, .int n)]) hx hb dX13_best_19 hl (by decide) rfl (fun ls hl => ?_)
    have L_3 : ∀ (k3 i3 : Nat), i3 + k3 = ix (d 1) → ∀ (as3 : Row) (bf3 : Row) (H : Heap) (locs : List Loc), fC (mF G) (mct G (mpg d kp as3 bf3 sc fd tp it ws sz nu mv)) s.heap H locs → ∀ ls : Array Slot, lv_has ls 6 [(0, .ref (G.ad 0 0)), (1, .int n), (2, .int ((p_bst (fun k => p_chances d (nI k) (ix n)) (-1) i3).1)), (3, .int ((p_bst (fun k => p_chances d (nI k) (ix n)) (-1) i3).2)), (4, .int (nI i3))] → WG p l e ({ frames := 6, cells := 0, slots := 0, locals := 132 }) s m (([.ref (G.ad 0 0), .int n] : List Value).toArray) below meth c H locs (mF G) (fun u : Row × Row => some (.int ((s_best d fd n).1))) (fun u => mct G (mpg d kp u.1 u.2 sc ((s_best d fd n).2) tp it ws sz nu mv)) (F0 m 21 ls []) := by
      intro k3
      induction k3 with
      | zero =>
        intro i3 hi3 as3 bf3 H locs hC ls hl
        obtain rfl : i3 = ix (d 1) := by omega
        refine lv_iload hx hb dX13_best_21 (lv_at hl 4 rfl) ?_
        refine lv_aload_n hx hb dX13_best_23 rfl (lv_at hl 0 rfl) ?_
        refine fg_get (C := RX13) (T := TX13) (N := 24) (ci := 0) (g := 0) (i := 0) (v := .ref (G.ad 0 1)) hx hb hown hts hX hC in_X13 rfl (min_ (by decide)) rfl 0 (by decide) q1310 (fun _ h => h) rfl dX13_best_24 ?_
        refine lv_iconst (v := 1) hx hb dX13_best_27 rfl ?_
        refine fg_iald (g := 0) (i := 1) (t0 := 0) (v := d 1) hx hb hX hC (min_ (by decide)) rfl rfl (vin_b rfl) rfl dX13_best_28 ?_
        refine fj_ge (tgt := 67) hx hb dX13_best_29 (by decide) (fun _ => ?_) (fun z_4 => absurd z_4 (nlt_ix (n := d 1)))
        refine lv_aload_n hx hb dX13_best_67 rfl (lv_at hl 0 rfl) ?_
        refine lv_iload_n hx hb dX13_best_68 rfl (lv_at hl 2 rfl) ?_
        refine fc_V (As := [.int ((p_bst (fun k => p_chances d (nI k) (ix n)) (-1) (ix (d 1))).1)]) (rest := []) hx hb hml hown hts hX hC (m_X13_orNone ((p_bst (fun k => p_chances d (nI k) (ix n)) (-1) (ix (d 1))).1)) (lw_V q1594 q1596 qs81 q124 q1597) hdV_X13_orNone ⟨rfl, rfl⟩ ⟨Nat.le_of_ble_eq_true rfl, Nat.le_of_ble_eq_true rfl⟩ (fx_recv (g := 0) (i := 0) (ci := 0) (q := (RX13, TX13, 24)) hX hC (min_ (by decide)) rfl rfl) hl.1 rfl (Nat.le_of_ble_eq_true rfl) ⟨Nat.zero_le _, Nat.zero_le _⟩ dX13_best_69 (fun _ H locs hC => ?_)
        refine W.eq (g2 := F0 m 72 ls [.int (if ((p_bst (fun k => p_chances d (nI k) (ix n)) (-1) (ix (d 1))).1) < 0 then -1000004 else ((p_bst (fun k => p_chances d (nI k) (ix n)) (-1) (ix (d 1))).1))]) rfl ?_
        have hs : s_best d fd n = ((if ((p_bst (fun k => p_chances d (nI k) (ix n)) (-1) (ix (d 1))).1) < 0 then -1000004 else ((p_bst (fun k => p_chances d (nI k) (ix n)) (-1) (ix (d 1))).1), if ((p_bst (fun k => p_chances d (nI k) (ix n)) (-1) (ix (d 1))).1) < 0 then p_find fd 3 else fd) : Int32 × Row) := by rw [s_best, if_pos c_2, p_none]; simp only [← best_neg]; show _ = (if p_best d n < 0 then _ else _, if p_best d n < 0 then _ else _); split <;> rfl
        exact fr_i hx hb hr hlocks hX hC ⟨as3, bf3⟩ (congrArg (fun z => some (Value.int z)) (t2_1 hs)) (congrArg (fun z => mct G (mpg d kp as3 bf3 sc z tp it ws sz nu mv)) (t2_2 hs)).symm dX13_best_72
      | succ k3 ih3 =>
        intro i3 hi3 as3 bf3 H locs hC ls hl
        have hz3 : i3 < 2147483648 := by have := ix_lt (d 1); omega
        refine lv_iload hx hb dX13_best_21 (lv_at hl 4 rfl) ?_
        refine lv_aload_n hx hb dX13_best_23 rfl (lv_at hl 0 rfl) ?_
        refine fg_get (C := RX13) (T := TX13) (N := 24) (ci := 0) (g := 0) (i := 0) (v := .ref (G.ad 0 1)) hx hb hown hts hX hC in_X13 rfl (min_ (by decide)) rfl 0 (by decide) q1310 (fun _ h => h) rfl dX13_best_24 ?_
        refine lv_iconst (v := 1) hx hb dX13_best_27 rfl ?_
        refine fg_iald (g := 0) (i := 1) (t0 := 0) (v := d 1) hx hb hX hC (min_ (by decide)) rfl rfl (vin_b rfl) rfl dX13_best_28 ?_
        refine fj_ge (tgt := 67) hx hb dX13_best_29 (by decide) (fun z_6 => absurd (lt_ix (n := d 1) (show i3 < ix (d 1) by omega)) z_6) (fun _ => ?_)
        refine lv_aload_n hx hb dX13_best_32 rfl (lv_at hl 0 rfl) ?_
        refine lv_iload hx hb dX13_best_33 (lv_at hl 4 rfl) ?_
        refine lv_iload_n hx hb dX13_best_35 rfl (lv_at hl 1 rfl) ?_
        refine fc_V (As := [.int (nI i3), .int n]) (rest := []) hx hb hml hown hts hX hC (m_X13_chancesIn hw (nI i3) n (vp_in_nI (show i3 < 8 by have := vin_lt hw.many; omega) (by decide))) (lw_V q1614 q1616 qs82 q124 q1617) hdV_X13_chancesIn ⟨rfl, rfl⟩ ⟨Nat.le_of_ble_eq_true rfl, Nat.le_of_ble_eq_true rfl⟩ (fx_recv (g := 0) (i := 0) (ci := 0) (q := (RX13, TX13, 24)) hX hC (min_ (by decide)) rfl rfl) hl.1 rfl (Nat.le_of_ble_eq_true rfl) ⟨Nat.zero_le _, Nat.zero_le _⟩ dX13_best_36 (fun u_7 H locs hC => ?_)
        refine W.eq (g2 := F0 m 39 ls [.int (p_chances d (nI i3) (ix n))]) rfl ?_
        refine lv_istore (lv' := [(5, .int (p_chances d (nI i3) (ix n))), (0, .ref (G.ad 0 0)), (1, .int n), (2, .int ((p_bst (fun k => p_chances d (nI k) (ix n)) (-1) i3).1)), (3, .int ((p_bst (fun k => p_chances d (nI k) (ix n)) (-1) i3).2)), (4, .int (nI i3))]) hx hb dX13_best_39 hl (by decide) rfl (fun ls hl => ?_)
        refine lv_iload hx hb dX13_best_41 (lv_at hl 0 rfl) ?_
        refine lv_iload_n hx hb dX13_best_43 rfl (lv_at hl 4 rfl) ?_
        refine fw_join (C := ((p_bst (fun k => p_chances d (nI k) (ix n)) (-1) i3).2) < (p_chances d (nI i3) (ix n))) (a := nI i3) (b := (p_bst (fun k => p_chances d (nI k) (ix n)) (-1) i3).1) (pcj := 53) (ls := ls) (rest := []) (fun ja jb => ?_) ?_
        · refine fj_le (tgt := 52) hx hb dX13_best_44 (by decide) (fun c_8 => ?_) (fun c_8 => ?_)
          · refine lv_iload_n hx hb dX13_best_52 rfl (lv_at hl 3 rfl) ?_
            exact jb c_8
          · refine lv_iload hx hb dX13_best_47 (lv_at hl 5 rfl) ?_
            refine lv_goto (tgt := 53) hx hb dX13_best_49 (by decide) ?_
            exact ja c_8
        refine lv_istore_n (lv' := [(2, .int (if ((p_bst (fun k => p_chances d (nI k) (ix n)) (-1) i3).2) < (p_chances d (nI i3) (ix n)) then nI i3 else (p_bst (fun k => p_chances d (nI k) (ix n)) (-1) i3).1)), (5, .int (p_chances d (nI i3) (ix n))), (0, .ref (G.ad 0 0)), (1, .int n), (3, .int ((p_bst (fun k => p_chances d (nI k) (ix n)) (-1) i3).2)), (4, .int (nI i3))]) hx hb dX13_best_53 rfl hl (by decide) rfl (fun ls hl => ?_)
        refine lv_iload_n hx hb dX13_best_54 rfl (lv_at hl 4 rfl) ?_
        refine lv_iload hx hb dX13_best_55 (lv_at hl 1 rfl) ?_
        refine fw_max hx hb (hml.trans hl.1.symm) hown hts q1424 (Nat.le_of_ble_eq_true rfl) (Nat.le_of_ble_eq_true rfl) (Nat.zero_le _) (Nat.zero_le _) q494 q125 q495 dX13_best_57 ?_
        refine lv_istore_n (lv' := [(3, .int (mx ((p_bst (fun k => p_chances d (nI k) (ix n)) (-1) i3).2) (p_chances d (nI i3) (ix n)))), (2, .int (if ((p_bst (fun k => p_chances d (nI k) (ix n)) (-1) i3).2) < (p_chances d (nI i3) (ix n)) then nI i3 else (p_bst (fun k => p_chances d (nI k) (ix n)) (-1) i3).1)), (5, .int (p_chances d (nI i3) (ix n))), (0, .ref (G.ad 0 0)), (1, .int n), (4, .int (nI i3))]) hx hb dX13_best_60 rfl hl (by decide) rfl (fun ls hl => ?_)
        refine lv_iinc (v := nI (i3 + 1)) (lv' := [(4, .int (nI (i3 + 1))), (3, .int (mx ((p_bst (fun k => p_chances d (nI k) (ix n)) (-1) i3).2) (p_chances d (nI i3) (ix n)))), (2, .int (if ((p_bst (fun k => p_chances d (nI k) (ix n)) (-1) i3).2) < (p_chances d (nI i3) (ix n)) then nI i3 else (p_bst (fun k => p_chances d (nI k) (ix n)) (-1) i3).1)), (5, .int (p_chances d (nI i3) (ix n))), (0, .ref (G.ad 0 0)), (1, .int n)]) hx hb dX13_best_61 hl (k := 5) rfl (nI_1 _) (by decide) rfl (fun ls hl => ?_)
        refine lv_goto (tgt := 21) hx hb dX13_best_64 (by decide) ?_
        exact ih3 (i3 + 1) (by omega) _ _ _ _ hC ls (lv_sub hl [4, 5, 2, 1, 0] rfl)
    exact L_3 (ix (d 1)) 0 (by omega) _ _ _ _ hC ls (lv_sub hl [3, 4, 2, 1, 0] rfl)
  · refine lv_aload_n hx hb dX13_best_7 rfl (lv_at hl 0 rfl) ?_
    refine lv_ldc (v := (-1000001)) hx hb hown (hts _ q1403) dX13_best_8 ?_
    refine fc_V (As := [.int (-1000001)]) (rest := []) hx hb hml hown hts hX hC (m_X13_finding 0 (vin_b rfl)) (lw_V q1404 q1406 qs56 q124 q1407) hdV_X13_finding ⟨rfl, rfl⟩ ⟨Nat.le_of_ble_eq_true rfl, Nat.le_of_ble_eq_true rfl⟩ (fx_recv (g := 0) (i := 0) (ci := 0) (q := (RX13, TX13, 24)) hX hC (min_ (by decide)) rfl rfl) hl.1 rfl (Nat.le_of_ble_eq_true rfl) ⟨Nat.zero_le _, Nat.zero_le _⟩ dX13_best_10 (fun _ H locs hC => ?_)
    refine W.eq (g2 := F0 m 13 ls [.int (-1000001)]) rfl ?_
    have hs : s_best d fd n = (((-1000001), p_find fd 0) : Int32 × Row) := by rw [s_best, if_neg c_2]
    exact fr_i hx hb hr hlocks hX hC ⟨as, bf⟩ (congrArg (fun z => some (Value.int z)) (t2_1 hs)) (congrArg (fun z => mct G (mpg d kp as bf sc z tp it ws sz nu mv)) (t2_2 hs)).symm dX13_best_13
set_option maxRecDepth 100000 in
theorem m_X13_mostHeard_8 {l : Launch} {G : Gm} {d kp as bf sc fd tp it ws sz nu mv : Row} (hw : WF d) (n : Int32) : Cm l yX13_mostHeard (ws_ yX13_mostHeard cX13_mostHeard 9 (some .int)) ({ frames := 5, cells := 0, slots := 0, locals := 104 }) (mF G) [.ref (G.ad 0 0), .int 8, .int 36, .int n] (mct G (mpg d kp as bf sc fd tp it ws sz nu mv)) (fun u : Row × Int32 => some (.int (p_owl d 8 36 n))) (fun u => mct G (mpg d kp u.1 bf (upd sc 1 u.2) fd tp it ws sz nu mv)) := by
  refine Cm.start (by decide) (Nat.le_of_ble_eq_true rfl) ?_
  intro p e s m below meth c hf hX hC ls hl
  obtain ⟨hx, hb, hr, hml, hown, hts, hlocks⟩ := hf
  have hl : lv_has ls 9 [(0, .ref (G.ad 0 0)), (1, .int 8), (2, .int 36), (3, .int n)] := hl
  have hown : s.vm.findClass "OwlEarsModel" = some m.cls := hown
  refine lv_aload_n hx hb dX13_mostHeard_0 rfl (lv_at hl 0 rfl) ?_
  refine fg_get (C := RX13) (T := TX13) (N := 24) (ci := 0) (g := 0) (i := 0) (v := .ref (G.ad 0 1)) hx hb hown hts hX hC in_X13 rfl (min_ (by decide)) rfl 0 (by decide) q1310 (fun _ h => h) rfl dX13_mostHeard_1 ?_
  refine lv_iload_n hx hb dX13_mostHeard_4 rfl (lv_at hl 1 rfl) ?_
  refine fg_iald (g := 0) (i := 1) (t0 := 0) (v := d 8) hx hb hX hC (min_ (by decide)) rfl rfl (vin_b rfl) rfl dX13_mostHeard_5 ?_
  refine lv_istore (lv' := [(4, .int (d 8)), (0, .ref (G.ad 0 0)), (1, .int 8), (2, .int 36), (3, .int n)]) hx hb dX13_mostHeard_6 hl (by decide) rfl (fun ls hl => ?_)
  refine lv_iconst (v := 0) hx hb dX13_mostHeard_8 rfl ?_
  refine lv_istore (lv' := [(5, .int 0), (4, .int (d 8)), (0, .ref (G.ad 0 0)), (1, .int 8), (2, .int 36), (3, .int n)]) hx hb dX13_mostHeard_9 hl (by decide) rfl (fun ls hl => ?_)
  refine lv_iconst (v := (-1)) hx hb dX13_mostHeard_11 rfl ?_
  refine lv_istore (lv' := [(6, .int (-1)), (5, .int 0), (4, .int (d 8)), (0, .ref (G.ad 0 0)), (1, .int 8), (2, .int 36), (3, .int n)]) hx hb dX13_mostHeard_12 hl (by decide) rfl (fun ls hl => ?_)
  refine lv_iconst (v := 0) hx hb dX13_mostHeard_14 rfl ?_
  refine lv_istore (lv' := [(7, .int 0), (6, .int (-1)), (5, .int 0), (4, .int (d 8)), (0, .ref (G.ad 0 0)), (1, .int 8), (2, .int 36), (3, .int n)]) hx hb dX13_mostHeard_15 hl (by decide) rfl (fun ls hl => ?_)
  have L_1 : ∀ (k1 i1 : Nat), i1 + k1 = 36 → ∀ (as1 : Row) (x1 : Int32) (y1 : Int32) (H : Heap) (locs : List Loc), fC (mF G) (mct G (mpg (upd d 8 x1) kp as1 bf (upd sc 1 y1) fd tp it ws sz nu mv)) s.heap H locs → ∀ ls : Array Slot, lv_has ls 9 [(0, .ref (G.ad 0 0)), (1, .int 8), (2, .int 36), (3, .int n), (4, .int (d 8)), (5, .int ((p_bst (fun v => p_heard (upd d 8 (nI v)) (ix n)) 0 i1).1)), (6, .int ((p_bst (fun v => p_heard (upd d 8 (nI v)) (ix n)) 0 i1).2)), (7, .int (nI i1))] → WG p l e ({ frames := 5, cells := 0, slots := 0, locals := 104 }) s m (([.ref (G.ad 0 0), .int 8, .int 36, .int n] : List Value).toArray) below meth c H locs (mF G) (fun u : Row × Int32 => some (.int (p_owl d 8 36 n))) (fun u => mct G (mpg d kp u.1 bf (upd sc 1 u.2) fd tp it ws sz nu mv)) (F0 m 17 ls []) := by
    intro k1
    induction k1 with
    | zero =>
      intro i1 hi1 as1 x1 y1 H locs hC ls hl
      obtain rfl : i1 = 36 := by omega
      refine lv_iload hx hb dX13_mostHeard_17 (lv_at hl 7 rfl) ?_
      refine lv_iload_n hx hb dX13_mostHeard_19 rfl (lv_at hl 2 rfl) ?_
      refine fj_ge (tgt := 69) hx hb dX13_mostHeard_20 (by decide) (fun _ => ?_) (fun z_2 => absurd z_2 (nlt_ix (n := 36)))
      refine lv_aload_n hx hb dX13_mostHeard_69 rfl (lv_at hl 0 rfl) ?_
      refine fg_get (C := RX13) (T := TX13) (N := 24) (ci := 0) (g := 0) (i := 0) (v := .ref (G.ad 0 1)) hx hb hown hts hX hC in_X13 rfl (min_ (by decide)) rfl 0 (by decide) q1310 (fun _ h => h) rfl dX13_mostHeard_70 ?_
      refine lv_iload_n hx hb dX13_mostHeard_73 rfl (lv_at hl 1 rfl) ?_
      refine lv_iload hx hb dX13_mostHeard_74 (lv_at hl 4 rfl) ?_
      refine fg_iast (g := 0) (i := 1) (t0 := 0) hx hb hX hC (min_ (by decide)) rfl rfl (vin_b rfl) (mct G (mpg (upd (upd d 8 x1) 8 (d 8)) kp as1 bf (upd sc 1 y1) fd tp it ws sz nu mv)) (mu mp1 (fun _ _ h => h)) dX13_mostHeard_76 (fun H locs hC => ?_)
      refine lv_iload hx hb dX13_mostHeard_77 (lv_at hl 5 rfl) ?_
      exact fr_i hx hb hr hlocks hX hC ⟨as1, y1⟩ (congrArg (fun z => some (Value.int z)) (rfl)) (congrArg (fun z => mct G (mpg z kp as1 bf (upd sc 1 y1) fd tp it ws sz nu mv)) (upd_back d 8 _)) dX13_mostHeard_79
    | succ k1 ih1 =>
      intro i1 hi1 as1 x1 y1 H locs hC ls hl
      refine lv_iload hx hb dX13_mostHeard_17 (lv_at hl 7 rfl) ?_
      refine lv_iload_n hx hb dX13_mostHeard_19 rfl (lv_at hl 2 rfl) ?_
      refine fj_ge (tgt := 69) hx hb dX13_mostHeard_20 (by decide) (fun z_3 => absurd (lt_ix (n := 36) (show i1 < 36 by omega)) z_3) (fun _ => ?_)
      refine lv_aload_n hx hb dX13_mostHeard_23 rfl (lv_at hl 0 rfl) ?_
      refine fg_get (C := RX13) (T := TX13) (N := 24) (ci := 0) (g := 0) (i := 0) (v := .ref (G.ad 0 1)) hx hb hown hts hX hC in_X13 rfl (min_ (by decide)) rfl 0 (by decide) q1310 (fun _ h => h) rfl dX13_mostHeard_24 ?_
      refine lv_iload_n hx hb dX13_mostHeard_27 rfl (lv_at hl 1 rfl) ?_
      refine lv_iload hx hb dX13_mostHeard_28 (lv_at hl 7 rfl) ?_
      refine fg_iast (g := 0) (i := 1) (t0 := 0) hx hb hX hC (min_ (by decide)) rfl rfl (vin_b rfl) (mct G (mpg (upd (upd d 8 x1) 8 (nI i1)) kp as1 bf (upd sc 1 y1) fd tp it ws sz nu mv)) (mu mp1 (fun _ _ h => h)) dX13_mostHeard_30 (fun H locs hC => ?_)
      have hC := (congrArg (fun z => fC (mF G) (mct G (mpg z kp as1 bf (upd sc 1 y1) fd tp it ws sz nu mv)) s.heap _ _) (upd_uu d 8 x1 (nI i1))).mp hC
      refine lv_aload_n hx hb dX13_mostHeard_31 rfl (lv_at hl 0 rfl) ?_
      refine lv_iload_n hx hb dX13_mostHeard_32 rfl (lv_at hl 3 rfl) ?_
      refine fc_V (As := [.int n]) (rest := []) hx hb hml hown hts hX hC (m_X13_heardIn (hw.put8 (show i1 < 36 by omega)) n) (lw_V q1586 q1588 qs80 q124 q1589) hdV_X13_heardIn ⟨rfl, rfl⟩ ⟨Nat.le_of_ble_eq_true rfl, Nat.le_of_ble_eq_true rfl⟩ (fx_recv (g := 0) (i := 0) (ci := 0) (q := (RX13, TX13, 24)) hX hC (min_ (by decide)) rfl rfl) hl.1 rfl (Nat.le_of_ble_eq_true rfl) ⟨Nat.zero_le _, Nat.zero_le _⟩ dX13_mostHeard_33 (fun _ H locs hC => ?_)
      refine W.eq (g2 := F0 m 36 ls [.int (p_heard (upd d 8 (nI i1)) (ix n))]) rfl ?_
      refine lv_istore (lv' := [(8, .int (p_heard (upd d 8 (nI i1)) (ix n))), (0, .ref (G.ad 0 0)), (1, .int 8), (2, .int 36), (3, .int n), (4, .int (d 8)), (5, .int ((p_bst (fun v => p_heard (upd d 8 (nI v)) (ix n)) 0 i1).1)), (6, .int ((p_bst (fun v => p_heard (upd d 8 (nI v)) (ix n)) 0 i1).2)), (7, .int (nI i1))]) hx hb dX13_mostHeard_36 hl (by decide) rfl (fun ls hl => ?_)
      refine lv_iload hx hb dX13_mostHeard_38 (lv_at hl 0 rfl) ?_
      refine lv_iload hx hb dX13_mostHeard_40 (lv_at hl 7 rfl) ?_
      refine fw_join (C := ((p_bst (fun v => p_heard (upd d 8 (nI v)) (ix n)) 0 i1).2) < (p_heard (upd d 8 (nI i1)) (ix n))) (a := nI i1) (b := (p_bst (fun v => p_heard (upd d 8 (nI v)) (ix n)) 0 i1).1) (pcj := 52) (ls := ls) (rest := []) (fun ja jb => ?_) ?_
      · refine fj_le (tgt := 50) hx hb dX13_mostHeard_42 (by decide) (fun c_5 => ?_) (fun c_5 => ?_)
        · refine lv_iload hx hb dX13_mostHeard_50 (lv_at hl 6 rfl) ?_
          exact jb c_5
        · refine lv_iload hx hb dX13_mostHeard_45 (lv_at hl 8 rfl) ?_
          refine lv_goto (tgt := 52) hx hb dX13_mostHeard_47 (by decide) ?_
          exact ja c_5
      refine lv_istore (lv' := [(5, .int (if ((p_bst (fun v => p_heard (upd d 8 (nI v)) (ix n)) 0 i1).2) < (p_heard (upd d 8 (nI i1)) (ix n)) then nI i1 else (p_bst (fun v => p_heard (upd d 8 (nI v)) (ix n)) 0 i1).1)), (8, .int (p_heard (upd d 8 (nI i1)) (ix n))), (0, .ref (G.ad 0 0)), (1, .int 8), (2, .int 36), (3, .int n), (4, .int (d 8)), (6, .int ((p_bst (fun v => p_heard (upd d 8 (nI v)) (ix n)) 0 i1).2)), (7, .int (nI i1))]) hx hb dX13_mostHeard_52 hl (by decide) rfl (fun ls hl => ?_)
      refine lv_iload hx hb dX13_mostHeard_54 (lv_at hl 7 rfl) ?_
      refine lv_iload hx hb dX13_mostHeard_56 (lv_at hl 1 rfl) ?_
      refine fw_max hx hb (hml.trans hl.1.symm) hown hts q1424 (Nat.le_of_ble_eq_true rfl) (Nat.le_of_ble_eq_true rfl) (Nat.zero_le _) (Nat.zero_le _) q494 q125 q495 dX13_mostHeard_58 ?_
      refine lv_istore (lv' := [(6, .int (mx ((p_bst (fun v => p_heard (upd d 8 (nI v)) (ix n)) 0 i1).2) (p_heard (upd d 8 (nI i1)) (ix n)))), (5, .int (if ((p_bst (fun v => p_heard (upd d 8 (nI v)) (ix n)) 0 i1).2) < (p_heard (upd d 8 (nI i1)) (ix n)) then nI i1 else (p_bst (fun v => p_heard (upd d 8 (nI v)) (ix n)) 0 i1).1)), (8, .int (p_heard (upd d 8 (nI i1)) (ix n))), (0, .ref (G.ad 0 0)), (1, .int 8), (2, .int 36), (3, .int n), (4, .int (d 8)), (7, .int (nI i1))]) hx hb dX13_mostHeard_61 hl (by decide) rfl (fun ls hl => ?_)
      refine lv_iinc (v := nI (i1 + 1)) (lv' := [(7, .int (nI (i1 + 1))), (6, .int (mx ((p_bst (fun v => p_heard (upd d 8 (nI v)) (ix n)) 0 i1).2) (p_heard (upd d 8 (nI i1)) (ix n)))), (5, .int (if ((p_bst (fun v => p_heard (upd d 8 (nI v)) (ix n)) 0 i1).2) < (p_heard (upd d 8 (nI i1)) (ix n)) then nI i1 else (p_bst (fun v => p_heard (upd d 8 (nI v)) (ix n)) 0 i1).1)), (8, .int (p_heard (upd d 8 (nI i1)) (ix n))), (0, .ref (G.ad 0 0)), (1, .int 8), (2, .int 36), (3, .int n), (4, .int (d 8))]) hx hb dX13_mostHeard_63 hl (k := 8) rfl (nI_1 _) (by decide) rfl (fun ls hl => ?_)
      refine lv_goto (tgt := 17) hx hb dX13_mostHeard_66 (by decide) ?_
      have hC := (congrArg (fun z => fC (mF G) (mct G (mpg (upd d 8 (nI i1)) kp (upd d 8 (nI i1)) bf z fd tp it ws sz nu mv)) s.heap _ _) (upd_uu sc 1 y1 (p_ran (upd d 8 (nI i1)) (ix n)))).mp hC
      exact ih1 (i1 + 1) (by omega) _ _ _ _ _ hC ls (lv_sub hl [4, 5, 6, 7, 8, 2, 1, 0] rfl)
  have hC := (congrArg (fun z => fC (mF G) (mct G (mpg z kp as bf sc fd tp it ws sz nu mv)) s.heap _ _) (upd_id d 8)).mp hC
  have hC := (congrArg (fun z => fC (mF G) (mct G (mpg (upd d 8 (d 8)) kp as bf z fd tp it ws sz nu mv)) s.heap _ _) (upd_id sc 1)).mp hC
  exact L_1 36 0 (by omega) _ _ _ _ _ hC ls (lv_sub hl [4, 5, 6, 7, 3, 2, 1, 0] rfl)
set_option maxRecDepth 100000 in
theorem m_X13_mostHeard_9 {l : Launch} {G : Gm} {d kp as bf sc fd tp it ws sz nu mv : Row} (hw : WF d) (n : Int32) : Cm l yX13_mostHeard (ws_ yX13_mostHeard cX13_mostHeard 9 (some .int)) ({ frames := 5, cells := 0, slots := 0, locals := 104 }) (mF G) [.ref (G.ad 0 0), .int 9, .int 4, .int n] (mct G (mpg d kp as bf sc fd tp it ws sz nu mv)) (fun u : Row × Int32 => some (.int (p_owl d 9 4 n))) (fun u => mct G (mpg d kp u.1 bf (upd sc 1 u.2) fd tp it ws sz nu mv)) := by
  refine Cm.start (by decide) (Nat.le_of_ble_eq_true rfl) ?_
  intro p e s m below meth c hf hX hC ls hl
  obtain ⟨hx, hb, hr, hml, hown, hts, hlocks⟩ := hf
  have hl : lv_has ls 9 [(0, .ref (G.ad 0 0)), (1, .int 9), (2, .int 4), (3, .int n)] := hl
  have hown : s.vm.findClass "OwlEarsModel" = some m.cls := hown
  refine lv_aload_n hx hb dX13_mostHeard_0 rfl (lv_at hl 0 rfl) ?_
  refine fg_get (C := RX13) (T := TX13) (N := 24) (ci := 0) (g := 0) (i := 0) (v := .ref (G.ad 0 1)) hx hb hown hts hX hC in_X13 rfl (min_ (by decide)) rfl 0 (by decide) q1310 (fun _ h => h) rfl dX13_mostHeard_1 ?_
  refine lv_iload_n hx hb dX13_mostHeard_4 rfl (lv_at hl 1 rfl) ?_
  refine fg_iald (g := 0) (i := 1) (t0 := 0) (v := d 9) hx hb hX hC (min_ (by decide)) rfl rfl (vin_b rfl) rfl dX13_mostHeard_5 ?_
  refine lv_istore (lv' := [(4, .int (d 9)), (0, .ref (G.ad 0 0)), (1, .int 9), (2, .int 4), (3, .int n)]) hx hb dX13_mostHeard_6 hl (by decide) rfl (fun ls hl => ?_)
  refine lv_iconst (v := 0) hx hb dX13_mostHeard_8 rfl ?_
  refine lv_istore (lv' := [(5, .int 0), (4, .int (d 9)), (0, .ref (G.ad 0 0)), (1, .int 9), (2, .int 4), (3, .int n)]) hx hb dX13_mostHeard_9 hl (by decide) rfl (fun ls hl => ?_)
  refine lv_iconst (v := (-1)) hx hb dX13_mostHeard_11 rfl ?_
  refine lv_istore (lv' := [(6, .int (-1)), (5, .int 0), (4, .int (d 9)), (0, .ref (G.ad 0 0)), (1, .int 9), (2, .int 4), (3, .int n)]) hx hb dX13_mostHeard_12 hl (by decide) rfl (fun ls hl => ?_)
  refine lv_iconst (v := 0) hx hb dX13_mostHeard_14 rfl ?_
  refine lv_istore (lv' := [(7, .int 0), (6, .int (-1)), (5, .int 0), (4, .int (d 9)), (0, .ref (G.ad 0 0)), (1, .int 9), (2, .int 4), (3, .int n)]) hx hb dX13_mostHeard_15 hl (by decide) rfl (fun ls hl => ?_)
  have L_1 : ∀ (k1 i1 : Nat), i1 + k1 = 4 → ∀ (as1 : Row) (x1 : Int32) (y1 : Int32) (H : Heap) (locs : List Loc), fC (mF G) (mct G (mpg (upd d 9 x1) kp as1 bf (upd sc 1 y1) fd tp it ws sz nu mv)) s.heap H locs → ∀ ls : Array Slot, lv_has ls 9 [(0, .ref (G.ad 0 0)), (1, .int 9), (2, .int 4), (3, .int n), (4, .int (d 9)), (5, .int ((p_bst (fun v => p_heard (upd d 9 (nI v)) (ix n)) 0 i1).1)), (6, .int ((p_bst (fun v => p_heard (upd d 9 (nI v)) (ix n)) 0 i1).2)), (7, .int (nI i1))] → WG p l e ({ frames := 5, cells := 0, slots := 0, locals := 104 }) s m (([.ref (G.ad 0 0), .int 9, .int 4, .int n] : List Value).toArray) below meth c H locs (mF G) (fun u : Row × Int32 => some (.int (p_owl d 9 4 n))) (fun u => mct G (mpg d kp u.1 bf (upd sc 1 u.2) fd tp it ws sz nu mv)) (F0 m 17 ls []) := by
    intro k1
    induction k1 with
    | zero =>
      intro i1 hi1 as1 x1 y1 H locs hC ls hl
      obtain rfl : i1 = 4 := by omega
      refine lv_iload hx hb dX13_mostHeard_17 (lv_at hl 7 rfl) ?_
      refine lv_iload_n hx hb dX13_mostHeard_19 rfl (lv_at hl 2 rfl) ?_
      refine fj_ge (tgt := 69) hx hb dX13_mostHeard_20 (by decide) (fun _ => ?_) (fun z_2 => absurd z_2 (nlt_ix (n := 4)))
      refine lv_aload_n hx hb dX13_mostHeard_69 rfl (lv_at hl 0 rfl) ?_
      refine fg_get (C := RX13) (T := TX13) (N := 24) (ci := 0) (g := 0) (i := 0) (v := .ref (G.ad 0 1)) hx hb hown hts hX hC in_X13 rfl (min_ (by decide)) rfl 0 (by decide) q1310 (fun _ h => h) rfl dX13_mostHeard_70 ?_
      refine lv_iload_n hx hb dX13_mostHeard_73 rfl (lv_at hl 1 rfl) ?_
      refine lv_iload hx hb dX13_mostHeard_74 (lv_at hl 4 rfl) ?_
      refine fg_iast (g := 0) (i := 1) (t0 := 0) hx hb hX hC (min_ (by decide)) rfl rfl (vin_b rfl) (mct G (mpg (upd (upd d 9 x1) 9 (d 9)) kp as1 bf (upd sc 1 y1) fd tp it ws sz nu mv)) (mu mp1 (fun _ _ h => h)) dX13_mostHeard_76 (fun H locs hC => ?_)
      refine lv_iload hx hb dX13_mostHeard_77 (lv_at hl 5 rfl) ?_
      exact fr_i hx hb hr hlocks hX hC ⟨as1, y1⟩ (congrArg (fun z => some (Value.int z)) (rfl)) (congrArg (fun z => mct G (mpg z kp as1 bf (upd sc 1 y1) fd tp it ws sz nu mv)) (upd_back d 9 _)) dX13_mostHeard_79
    | succ k1 ih1 =>
      intro i1 hi1 as1 x1 y1 H locs hC ls hl
      refine lv_iload hx hb dX13_mostHeard_17 (lv_at hl 7 rfl) ?_
      refine lv_iload_n hx hb dX13_mostHeard_19 rfl (lv_at hl 2 rfl) ?_
      refine fj_ge (tgt := 69) hx hb dX13_mostHeard_20 (by decide) (fun z_3 => absurd (lt_ix (n := 4) (show i1 < 4 by omega)) z_3) (fun _ => ?_)
      refine lv_aload_n hx hb dX13_mostHeard_23 rfl (lv_at hl 0 rfl) ?_
      refine fg_get (C := RX13) (T := TX13) (N := 24) (ci := 0) (g := 0) (i := 0) (v := .ref (G.ad 0 1)) hx hb hown hts hX hC in_X13 rfl (min_ (by decide)) rfl 0 (by decide) q1310 (fun _ h => h) rfl dX13_mostHeard_24 ?_
      refine lv_iload_n hx hb dX13_mostHeard_27 rfl (lv_at hl 1 rfl) ?_
      refine lv_iload hx hb dX13_mostHeard_28 (lv_at hl 7 rfl) ?_
      refine fg_iast (g := 0) (i := 1) (t0 := 0) hx hb hX hC (min_ (by decide)) rfl rfl (vin_b rfl) (mct G (mpg (upd (upd d 9 x1) 9 (nI i1)) kp as1 bf (upd sc 1 y1) fd tp it ws sz nu mv)) (mu mp1 (fun _ _ h => h)) dX13_mostHeard_30 (fun H locs hC => ?_)
      have hC := (congrArg (fun z => fC (mF G) (mct G (mpg z kp as1 bf (upd sc 1 y1) fd tp it ws sz nu mv)) s.heap _ _) (upd_uu d 9 x1 (nI i1))).mp hC
      refine lv_aload_n hx hb dX13_mostHeard_31 rfl (lv_at hl 0 rfl) ?_
      refine lv_iload_n hx hb dX13_mostHeard_32 rfl (lv_at hl 3 rfl) ?_
      refine fc_V (As := [.int n]) (rest := []) hx hb hml hown hts hX hC (m_X13_heardIn hw.put9 n) (lw_V q1586 q1588 qs80 q124 q1589) hdV_X13_heardIn ⟨rfl, rfl⟩ ⟨Nat.le_of_ble_eq_true rfl, Nat.le_of_ble_eq_true rfl⟩ (fx_recv (g := 0) (i := 0) (ci := 0) (q := (RX13, TX13, 24)) hX hC (min_ (by decide)) rfl rfl) hl.1 rfl (Nat.le_of_ble_eq_true rfl) ⟨Nat.zero_le _, Nat.zero_le _⟩ dX13_mostHeard_33 (fun _ H locs hC => ?_)
      refine W.eq (g2 := F0 m 36 ls [.int (p_heard (upd d 9 (nI i1)) (ix n))]) rfl ?_
      refine lv_istore (lv' := [(8, .int (p_heard (upd d 9 (nI i1)) (ix n))), (0, .ref (G.ad 0 0)), (1, .int 9), (2, .int 4), (3, .int n), (4, .int (d 9)), (5, .int ((p_bst (fun v => p_heard (upd d 9 (nI v)) (ix n)) 0 i1).1)), (6, .int ((p_bst (fun v => p_heard (upd d 9 (nI v)) (ix n)) 0 i1).2)), (7, .int (nI i1))]) hx hb dX13_mostHeard_36 hl (by decide) rfl (fun ls hl => ?_)
      refine lv_iload hx hb dX13_mostHeard_38 (lv_at hl 0 rfl) ?_
      refine lv_iload hx hb dX13_mostHeard_40 (lv_at hl 7 rfl) ?_
      refine fw_join (C := ((p_bst (fun v => p_heard (upd d 9 (nI v)) (ix n)) 0 i1).2) < (p_heard (upd d 9 (nI i1)) (ix n))) (a := nI i1) (b := (p_bst (fun v => p_heard (upd d 9 (nI v)) (ix n)) 0 i1).1) (pcj := 52) (ls := ls) (rest := []) (fun ja jb => ?_) ?_
      · refine fj_le (tgt := 50) hx hb dX13_mostHeard_42 (by decide) (fun c_5 => ?_) (fun c_5 => ?_)
        · refine lv_iload hx hb dX13_mostHeard_50 (lv_at hl 6 rfl) ?_
          exact jb c_5
        · refine lv_iload hx hb dX13_mostHeard_45 (lv_at hl 8 rfl) ?_
          refine lv_goto (tgt := 52) hx hb dX13_mostHeard_47 (by decide) ?_
          exact ja c_5
      refine lv_istore (lv' := [(5, .int (if ((p_bst (fun v => p_heard (upd d 9 (nI v)) (ix n)) 0 i1).2) < (p_heard (upd d 9 (nI i1)) (ix n)) then nI i1 else (p_bst (fun v => p_heard (upd d 9 (nI v)) (ix n)) 0 i1).1)), (8, .int (p_heard (upd d 9 (nI i1)) (ix n))), (0, .ref (G.ad 0 0)), (1, .int 9), (2, .int 4), (3, .int n), (4, .int (d 9)), (6, .int ((p_bst (fun v => p_heard (upd d 9 (nI v)) (ix n)) 0 i1).2)), (7, .int (nI i1))]) hx hb dX13_mostHeard_52 hl (by decide) rfl (fun ls hl => ?_)
      refine lv_iload hx hb dX13_mostHeard_54 (lv_at hl 7 rfl) ?_
      refine lv_iload hx hb dX13_mostHeard_56 (lv_at hl 1 rfl) ?_
      refine fw_max hx hb (hml.trans hl.1.symm) hown hts q1424 (Nat.le_of_ble_eq_true rfl) (Nat.le_of_ble_eq_true rfl) (Nat.zero_le _) (Nat.zero_le _) q494 q125 q495 dX13_mostHeard_58 ?_
      refine lv_istore (lv' := [(6, .int (mx ((p_bst (fun v => p_heard (upd d 9 (nI v)) (ix n)) 0 i1).2) (p_heard (upd d 9 (nI i1)) (ix n)))), (5, .int (if ((p_bst (fun v => p_heard (upd d 9 (nI v)) (ix n)) 0 i1).2) < (p_heard (upd d 9 (nI i1)) (ix n)) then nI i1 else (p_bst (fun v => p_heard (upd d 9 (nI v)) (ix n)) 0 i1).1)), (8, .int (p_heard (upd d 9 (nI i1)) (ix n))), (0, .ref (G.ad 0 0)), (1, .int 9), (2, .int 4), (3, .int n), (4, .int (d 9)), (7, .int (nI i1))]) hx hb dX13_mostHeard_61 hl (by decide) rfl (fun ls hl => ?_)
      refine lv_iinc (v := nI (i1 + 1)) (lv' := [(7, .int (nI (i1 + 1))), (6, .int (mx ((p_bst (fun v => p_heard (upd d 9 (nI v)) (ix n)) 0 i1).2) (p_heard (upd d 9 (nI i1)) (ix n)))), (5, .int (if ((p_bst (fun v => p_heard (upd d 9 (nI v)) (ix n)) 0 i1).2) < (p_heard (upd d 9 (nI i1)) (ix n)) then nI i1 else (p_bst (fun v => p_heard (upd d 9 (nI v)) (ix n)) 0 i1).1)), (8, .int (p_heard (upd d 9 (nI i1)) (ix n))), (0, .ref (G.ad 0 0)), (1, .int 9), (2, .int 4), (3, .int n), (4, .int (d 9))]) hx hb dX13_mostHeard_63 hl (k := 8) rfl (nI_1 _) (by decide) rfl (fun ls hl => ?_)
      refine lv_goto (tgt := 17) hx hb dX13_mostHeard_66 (by decide) ?_
      have hC := (congrArg (fun z => fC (mF G) (mct G (mpg (upd d 9 (nI i1)) kp (upd d 9 (nI i1)) bf z fd tp it ws sz nu mv)) s.heap _ _) (upd_uu sc 1 y1 (p_ran (upd d 9 (nI i1)) (ix n)))).mp hC
      exact ih1 (i1 + 1) (by omega) _ _ _ _ _ hC ls (lv_sub hl [4, 5, 6, 7, 8, 2, 1, 0] rfl)
  have hC := (congrArg (fun z => fC (mF G) (mct G (mpg z kp as bf sc fd tp it ws sz nu mv)) s.heap _ _) (upd_id d 9)).mp hC
  have hC := (congrArg (fun z => fC (mF G) (mct G (mpg (upd d 9 (d 9)) kp as bf z fd tp it ws sz nu mv)) s.heap _ _) (upd_id sc 1)).mp hC
  exact L_1 4 0 (by omega) _ _ _ _ _ hC ls (lv_sub hl [4, 5, 6, 7, 3, 2, 1, 0] rfl)
set_option maxRecDepth 100000 in
theorem m_X13_post {l : Launch} {G : Gm} {d kp as bf sc fd tp it ws sz nu mv : Row} (hw : WF d) (n : Int32) : Cm l yX13_post (ws_ yX13_post cX13_post 2 (some .int)) ({ frames := 6, cells := 0, slots := 0, locals := 132 }) (mF G) [.ref (G.ad 0 0), .int n] (mct G (mpg d kp as bf sc fd tp it ws sz nu mv)) (fun u : Row × Int32 => some (.int ((s_post d fd n).1))) (fun u => mct G (mpg d kp u.1 bf (upd sc 1 u.2) ((s_post d fd n).2) tp it ws sz nu mv)) := by
  refine Cm.start (by decide) (Nat.le_of_ble_eq_true rfl) ?_
  intro p e s m below meth c hf hX hC ls hl
  obtain ⟨hx, hb, hr, hml, hown, hts, hlocks⟩ := hf
  have hl : lv_has ls 2 [(0, .ref (G.ad 0 0)), (1, .int n)] := hl
  have hown : s.vm.findClass "OwlEarsModel" = some m.cls := hown
  refine lv_iload_n hx hb dX13_post_0 rfl (lv_at hl 1 rfl) ?_
  refine fc_S (As := [.int n]) (rest := []) hx hb hml hown hts hX hC (m_X13_isLooked n) (lw_S q1649 q1650 q124 q1651) hdS_X13_isLooked ⟨rfl, rfl⟩ ⟨Nat.le_of_ble_eq_true rfl, Nat.le_of_ble_eq_true rfl⟩ hl.1 rfl (Nat.le_of_ble_eq_true rfl) ⟨Nat.zero_le _, Nat.zero_le _⟩ dX13_post_1 (fun _ H locs hC => ?_)
  refine W.eq (g2 := F0 m 4 ls [.int (b2i (p_in n 0 100))]) rfl ?_
  refine fb_eq (tgt := 19) hx hb dX13_post_4 (by decide) (fun c_2 => ?_) (fun c_2 => ?_)
  · refine lv_aload_n hx hb dX13_post_19 rfl (lv_at hl 0 rfl) ?_
    refine lv_ldc (v := (-1000001)) hx hb hown (hts _ q1403) dX13_post_20 ?_
    refine fc_V (As := [.int (-1000001)]) (rest := []) hx hb hml hown hts hX hC (m_X13_finding 0 (vin_b rfl)) (lw_V q1404 q1406 qs56 q124 q1407) hdV_X13_finding ⟨rfl, rfl⟩ ⟨Nat.le_of_ble_eq_true rfl, Nat.le_of_ble_eq_true rfl⟩ (fx_recv (g := 0) (i := 0) (ci := 0) (q := (RX13, TX13, 24)) hX hC (min_ (by decide)) rfl rfl) hl.1 rfl (Nat.le_of_ble_eq_true rfl) ⟨Nat.zero_le _, Nat.zero_le _⟩ dX13_post_22 (fun _ H locs hC => ?_)
    refine W.eq (g2 := F0 m 25 ls [.int (-1000001)]) rfl ?_
    have hs : s_post d fd n = (((-1000001), p_find fd 0) : Int32 × Row) := by first | grind [s_post] | rfl
    exact fr_i hx hb hr hlocks hX hC ⟨as, (sc 1)⟩ (congrArg (fun z => some (Value.int z)) (t2_1 hs)) ((congrArg (fun z => mct G (mpg d kp as bf (upd sc 1 (sc 1)) z tp it ws sz nu mv)) (t2_2 hs)).trans (congrArg (fun z => mct G (mpg d kp as bf z (p_find fd 0) tp it ws sz nu mv)) (by funext j; simp only [upd]; grind))).symm dX13_post_25
  · refine lv_aload_n hx hb dX13_post_7 rfl (lv_at hl 0 rfl) ?_
    refine lv_bipush (v := 8) hx hb dX13_post_8 rfl ?_
    refine lv_bipush (v := 36) hx hb dX13_post_10 rfl ?_
    refine lv_iload_n hx hb dX13_post_12 rfl (lv_at hl 1 rfl) ?_
    refine fc_V (As := [.int 8, .int 36, .int n]) (rest := []) hx hb hml hown hts hX hC (m_X13_mostHeard_8 hw n) (lw_V q1656 q1658 qs85 q124 q1659) hdV_X13_mostHeard ⟨rfl, rfl⟩ ⟨Nat.le_of_ble_eq_true rfl, Nat.le_of_ble_eq_true rfl⟩ (fx_recv (g := 0) (i := 0) (ci := 0) (q := (RX13, TX13, 24)) hX hC (min_ (by decide)) rfl rfl) hl.1 rfl (Nat.le_of_ble_eq_true rfl) ⟨Nat.zero_le _, Nat.zero_le _⟩ dX13_post_13 (fun u_3 H locs hC => ?_)
    refine W.eq (g2 := F0 m 16 ls [.int (p_owl d 8 36 n)]) rfl ?_
    refine lv_goto (tgt := 25) hx hb dX13_post_16 (by decide) ?_
    have hs : s_post d fd n = ((p_owl d 8 36 n, fd) : Int32 × Row) := by first | grind [s_post] | rfl
    exact fr_i hx hb hr hlocks hX hC ⟨u_3.1, u_3.2⟩ (congrArg (fun z => some (Value.int z)) (t2_1 hs)) (congrArg (fun z => mct G (mpg d kp u_3.1 bf (upd sc 1 u_3.2) z tp it ws sz nu mv)) (t2_2 hs)).symm dX13_post_25
set_option maxRecDepth 100000 in
theorem m_X13_face {l : Launch} {G : Gm} {d kp as bf sc fd tp it ws sz nu mv : Row} (hw : WF d) (n : Int32) : Cm l yX13_face (ws_ yX13_face cX13_face 2 (some .int)) ({ frames := 6, cells := 0, slots := 0, locals := 132 }) (mF G) [.ref (G.ad 0 0), .int n] (mct G (mpg d kp as bf sc fd tp it ws sz nu mv)) (fun u : Row × Int32 => some (.int ((s_face d fd n).1))) (fun u => mct G (mpg d kp u.1 bf (upd sc 1 u.2) ((s_face d fd n).2) tp it ws sz nu mv)) := by
  refine Cm.start (by decide) (Nat.le_of_ble_eq_true rfl) ?_
  intro p e s m below meth c hf hX hC ls hl
  obtain ⟨hx, hb, hr, hml, hown, hts, hlocks⟩ := hf
  have hl : lv_has ls 2 [(0, .ref (G.ad 0 0)), (1, .int n)] := hl
  have hown : s.vm.findClass "OwlEarsModel" = some m.cls := hown
  refine lv_iload_n hx hb dX13_face_0 rfl (lv_at hl 1 rfl) ?_
  refine fc_S (As := [.int n]) (rest := []) hx hb hml hown hts hX hC (m_X13_isLooked n) (lw_S q1649 q1650 q124 q1651) hdS_X13_isLooked ⟨rfl, rfl⟩ ⟨Nat.le_of_ble_eq_true rfl, Nat.le_of_ble_eq_true rfl⟩ hl.1 rfl (Nat.le_of_ble_eq_true rfl) ⟨Nat.zero_le _, Nat.zero_le _⟩ dX13_face_1 (fun _ H locs hC => ?_)
  refine W.eq (g2 := F0 m 4 ls [.int (b2i (p_in n 0 100))]) rfl ?_
  refine fb_eq (tgt := 18) hx hb dX13_face_4 (by decide) (fun c_2 => ?_) (fun c_2 => ?_)
  · refine lv_aload_n hx hb dX13_face_18 rfl (lv_at hl 0 rfl) ?_
    refine lv_ldc (v := (-1000001)) hx hb hown (hts _ q1403) dX13_face_19 ?_
    refine fc_V (As := [.int (-1000001)]) (rest := []) hx hb hml hown hts hX hC (m_X13_finding 0 (vin_b rfl)) (lw_V q1404 q1406 qs56 q124 q1407) hdV_X13_finding ⟨rfl, rfl⟩ ⟨Nat.le_of_ble_eq_true rfl, Nat.le_of_ble_eq_true rfl⟩ (fx_recv (g := 0) (i := 0) (ci := 0) (q := (RX13, TX13, 24)) hX hC (min_ (by decide)) rfl rfl) hl.1 rfl (Nat.le_of_ble_eq_true rfl) ⟨Nat.zero_le _, Nat.zero_le _⟩ dX13_face_21 (fun _ H locs hC => ?_)
    refine W.eq (g2 := F0 m 24 ls [.int (-1000001)]) rfl ?_
    have hs : s_face d fd n = (((-1000001), p_find fd 0) : Int32 × Row) := by first | grind [s_face] | rfl
    exact fr_i hx hb hr hlocks hX hC ⟨as, (sc 1)⟩ (congrArg (fun z => some (Value.int z)) (t2_1 hs)) ((congrArg (fun z => mct G (mpg d kp as bf (upd sc 1 (sc 1)) z tp it ws sz nu mv)) (t2_2 hs)).trans (congrArg (fun z => mct G (mpg d kp as bf z (p_find fd 0) tp it ws sz nu mv)) (by funext j; simp only [upd]; grind))).symm dX13_face_24
  · refine lv_aload_n hx hb dX13_face_7 rfl (lv_at hl 0 rfl) ?_
    refine lv_bipush (v := 9) hx hb dX13_face_8 rfl ?_
    refine lv_iconst (v := 4) hx hb dX13_face_10 rfl ?_
    refine lv_iload_n hx hb dX13_face_11 rfl (lv_at hl 1 rfl) ?_
    refine fc_V (As := [.int 9, .int 4, .int n]) (rest := []) hx hb hml hown hts hX hC (m_X13_mostHeard_9 hw n) (lw_V q1656 q1658 qs85 q124 q1659) hdV_X13_mostHeard ⟨rfl, rfl⟩ ⟨Nat.le_of_ble_eq_true rfl, Nat.le_of_ble_eq_true rfl⟩ (fx_recv (g := 0) (i := 0) (ci := 0) (q := (RX13, TX13, 24)) hX hC (min_ (by decide)) rfl rfl) hl.1 rfl (Nat.le_of_ble_eq_true rfl) ⟨Nat.zero_le _, Nat.zero_le _⟩ dX13_face_12 (fun u_3 H locs hC => ?_)
    refine W.eq (g2 := F0 m 15 ls [.int (p_owl d 9 4 n)]) rfl ?_
    refine lv_goto (tgt := 24) hx hb dX13_face_15 (by decide) ?_
    have hs : s_face d fd n = ((p_owl d 9 4 n, fd) : Int32 × Row) := by first | grind [s_face] | rfl
    exact fr_i hx hb hr hlocks hX hC ⟨u_3.1, u_3.2⟩ (congrArg (fun z => some (Value.int z)) (t2_1 hs)) (congrArg (fun z => mct G (mpg d kp u_3.1 bf (upd sc 1 u_3.2) z tp it ws sz nu mv)) (t2_2 hs)).symm dX13_face_24
