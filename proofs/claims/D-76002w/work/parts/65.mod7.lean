theorem hdS_X13_isSheet : yX13_isSheet.cls ≠ "java/lang/invoke/MethodHandle" ∧ yX13_isSheet.cls ≠ "java/lang/invoke/VarHandle" ∧ (parseMethodDescriptor yX13_isSheet.desc).map (fun d => d.parameters.length) = some 1 := by decide +kernel
theorem hdV_X13_lacks : yX13_lacks.cls = RX13 ∧ yX13_lacks.cls ≠ "java/lang/invoke/MethodHandle" ∧ yX13_lacks.cls ≠ "java/lang/invoke/VarHandle" ∧ (parseMethodDescriptor yX13_lacks.desc).map (fun d => d.parameters.length) = some 1 := by decide +kernel
theorem hdV_X13_isHeardSo : yX13_isHeardSo.cls = RX13 ∧ yX13_isHeardSo.cls ≠ "java/lang/invoke/MethodHandle" ∧ yX13_isHeardSo.cls ≠ "java/lang/invoke/VarHandle" ∧ (parseMethodDescriptor yX13_isHeardSo.desc).map (fun d => d.parameters.length) = some 2 := by decide +kernel
theorem hdV_X13_wasHeard : yX13_wasHeard.cls = RX13 ∧ yX13_wasHeard.cls ≠ "java/lang/invoke/MethodHandle" ∧ yX13_wasHeard.cls ≠ "java/lang/invoke/VarHandle" ∧ (parseMethodDescriptor yX13_wasHeard.desc).map (fun d => d.parameters.length) = some 2 := by decide +kernel
theorem hdV_X13_lacksFor : yX13_lacksFor.cls = RX13 ∧ yX13_lacksFor.cls ≠ "java/lang/invoke/MethodHandle" ∧ yX13_lacksFor.cls ≠ "java/lang/invoke/VarHandle" ∧ (parseMethodDescriptor yX13_lacksFor.desc).map (fun d => d.parameters.length) = some 2 := by decide +kernel
theorem hdV_X13_fitting : yX13_fitting.cls = RX13 ∧ yX13_fitting.cls ≠ "java/lang/invoke/MethodHandle" ∧ yX13_fitting.cls ≠ "java/lang/invoke/VarHandle" ∧ (parseMethodDescriptor yX13_fitting.desc).map (fun d => d.parameters.length) = some 4 := by decide +kernel
theorem m_X13_findingV {l : Launch} {G : Gm} {d kp as bf sc fd tp it ws sz nu mv : Row} (v : Int32) (hv : v = -1000001 ∨ v = -1000006) : Cm l yX13_finding (ws_ yX13_finding cX13_finding 2 (some .int)) ({ frames := 0, cells := 0, slots := 0, locals := 0 }) (mF G) [.ref (G.ad 0 0), .int v] (mct G (mpg d kp as bf sc fd tp it ws sz nu mv)) (fun _ : Unit => some (.int v)) (fun _ => mct G (mpg d kp as bf sc (p_fnd fd v) tp it ws sz nu mv)) := by
  have h := m_X13_finding (l := l) (G := G) (d := d) (kp := kp) (as := as) (bf := bf) (sc := sc) (fd := fd) (tp := tp) (it := it) (ws := ws) (sz := sz) (nu := nu) (mv := mv) (-1000001 - v) (fnd_k hv).1
  rw [(fnd_k hv).2] at h
  exact h
set_option maxRecDepth 100000 in
theorem m_X13_of {l : Launch} {G : Gm} {d kp as bf sc fd tp it ws sz nu mv : Row} (hw : WF d) (k what : Int32) : Cm l yX13_of (ws_ yX13_of cX13_of 3 (some .int)) ({ frames := 5, cells := 0, slots := 0, locals := 108 }) (mF G) [.ref (G.ad 0 0), .int k, .int what] (mct G (mpg d kp as bf sc fd tp it ws sz nu mv)) (fun u : Row => some (.int ((s_of d fd k what).1))) (fun u => mct G (mpg d kp as u sc ((s_of d fd k what).2) tp it ws sz nu mv)) := by
  refine Cm.start (by decide) (Nat.le_of_ble_eq_true rfl) ?_
  intro p e s m below meth c hf hX hC ls hl
  obtain ⟨hx, hb, hr, hml, hown, hts, hlocks⟩ := hf
  have hl : lv_has ls 3 [(0, .ref (G.ad 0 0)), (1, .int k), (2, .int what)] := hl
  have hown : s.vm.findClass "OwlEarsModel" = some m.cls := hown
  refine lv_aload_n hx hb dX13_of_0 rfl (lv_at hl 0 rfl) ?_
  refine lv_iload_n hx hb dX13_of_1 rfl (lv_at hl 1 rfl) ?_
  refine fc_V (As := [.int k]) (rest := []) hx hb hml hown hts hX hC (m_X13_isStrike k) (lw_V q1467 q1469 qs62 q124 q1470) hdV_X13_isStrike ⟨rfl, rfl⟩ ⟨Nat.le_of_ble_eq_true rfl, Nat.le_of_ble_eq_true rfl⟩ (fx_recv (g := 0) (i := 0) (ci := 0) (q := (RX13, TX13, 24)) hX hC (min_ (by decide)) rfl rfl) hl.1 rfl (Nat.le_of_ble_eq_true rfl) ⟨Nat.zero_le _, Nat.zero_le _⟩ dX13_of_2 (fun _ H locs hC => ?_)
  refine W.eq (g2 := F0 m 5 ls [.int (b2i (p_in k 0 (d 1 - 1)))]) rfl ?_
  refine fb_eq (tgt := 18) hx hb dX13_of_5 (by decide) (fun c_2 => ?_) (fun c_2 => ?_)
  · refine lv_aload_n hx hb dX13_of_18 rfl (lv_at hl 0 rfl) ?_
    refine lv_ldc (v := (-1000001)) hx hb hown (hts _ q1403) dX13_of_19 ?_
    refine fc_V (As := [.int (-1000001)]) (rest := []) hx hb hml hown hts hX hC (m_X13_finding 0 (vin_b rfl)) (lw_V q1404 q1406 qs56 q124 q1407) hdV_X13_finding ⟨rfl, rfl⟩ ⟨Nat.le_of_ble_eq_true rfl, Nat.le_of_ble_eq_true rfl⟩ (fx_recv (g := 0) (i := 0) (ci := 0) (q := (RX13, TX13, 24)) hX hC (min_ (by decide)) rfl rfl) hl.1 rfl (Nat.le_of_ble_eq_true rfl) ⟨Nat.zero_le _, Nat.zero_le _⟩ dX13_of_21 (fun _ H locs hC => ?_)
    refine W.eq (g2 := F0 m 24 ls [.int (-1000001)]) rfl ?_
    have hs : s_of d fd k what = (((-1000001), p_find fd 0) : Int32 × Row) := by rw [s_of, if_neg c_2]
    exact fr_i hx hb hr hlocks hX hC bf (congrArg (fun z => some (Value.int z)) (t2_1 hs)) (congrArg (fun z => mct G (mpg d kp as bf sc z tp it ws sz nu mv)) (t2_2 hs)).symm dX13_of_24
  · refine lv_iload_n hx hb dX13_of_8 rfl (lv_at hl 2 rfl) ?_
    refine lv_iconst (v := 0) hx hb dX13_of_9 rfl ?_
    refine lv_bipush (v := 7) hx hb dX13_of_10 rfl ?_
    refine fc_S (As := [.int what, .int 0, .int 7]) (rest := []) hx hb hml hown hts hX hC (m_X13_within what 0 7) (lw_S q1390 q1391 q124 q1392) hdS_X13_within ⟨rfl, rfl⟩ ⟨Nat.le_of_ble_eq_true rfl, Nat.le_of_ble_eq_true rfl⟩ hl.1 rfl (Nat.le_of_ble_eq_true rfl) ⟨Nat.zero_le _, Nat.zero_le _⟩ dX13_of_12 (fun _ H locs hC => ?_)
    refine W.eq (g2 := F0 m 15 ls [.int (b2i (p_in what 0 7))]) rfl ?_
    refine fb_ne (tgt := 25) hx hb dX13_of_15 (by decide) (fun c_4 => ?_) (fun c_4 => ?_)
    · refine lv_iload_n hx hb dX13_of_25 rfl (lv_at hl 2 rfl) ?_
      by_cases c_5 : what = 4
      · refine lv_tableIn (off := 30) (tgt := 56) hx hb dX13_of_26 (by rw [c_5]; decide) (by rw [c_5]; decide) (by rw [c_5]; rfl) (by decide) ?_
        refine lv_aload_n hx hb dX13_of_56 rfl (lv_at hl 0 rfl) ?_
        refine lv_iload_n hx hb dX13_of_57 rfl (lv_at hl 1 rfl) ?_
        refine fc_V (As := [.int k]) (rest := []) hx hb hml hown hts hX hC (m_X13_takes k (kin_of hw c_2)) (lw_V q1471 q1473 qs63 q124 q1474) hdV_X13_takes ⟨rfl, rfl⟩ ⟨Nat.le_of_ble_eq_true rfl, Nat.le_of_ble_eq_true rfl⟩ (fx_recv (g := 0) (i := 0) (ci := 0) (q := (RX13, TX13, 24)) hX hC (min_ (by decide)) rfl rfl) hl.1 rfl (Nat.le_of_ble_eq_true rfl) ⟨Nat.zero_le _, Nat.zero_le _⟩ dX13_of_58 (fun _ H locs hC => ?_)
        refine W.eq (g2 := F0 m 61 ls [.int (p_takes d k)]) rfl ?_
        have hs : s_of d fd k what = ((p_takes d k, fd) : Int32 × Row) := by subst c_5; simp [s_of, c_2, b2i]
        exact fr_i hx hb hr hlocks hX hC bf (congrArg (fun z => some (Value.int z)) (t2_1 hs)) (congrArg (fun z => mct G (mpg d kp as bf sc z tp it ws sz nu mv)) (t2_2 hs)).symm dX13_of_61
      by_cases c_7 : what = 5
      · refine lv_tableIn (off := 36) (tgt := 62) hx hb dX13_of_26 (by rw [c_7]; decide) (by rw [c_7]; decide) (by rw [c_7]; rfl) (by decide) ?_
        refine lv_aload_n hx hb dX13_of_62 rfl (lv_at hl 0 rfl) ?_
        refine lv_iload_n hx hb dX13_of_63 rfl (lv_at hl 1 rfl) ?_
        refine fc_V (As := [.int k]) (rest := []) hx hb hml hown hts hX hC (m_X13_deep k (kin_of hw c_2)) (lw_V q1479 q1481 qs65 q124 q1482) hdV_X13_deep ⟨rfl, rfl⟩ ⟨Nat.le_of_ble_eq_true rfl, Nat.le_of_ble_eq_true rfl⟩ (fx_recv (g := 0) (i := 0) (ci := 0) (q := (RX13, TX13, 24)) hX hC (min_ (by decide)) rfl rfl) hl.1 rfl (Nat.le_of_ble_eq_true rfl) ⟨Nat.zero_le _, Nat.zero_le _⟩ dX13_of_64 (fun _ H locs hC => ?_)
        refine W.eq (g2 := F0 m 67 ls [.int (p_deep d k)]) rfl ?_
        have hs : s_of d fd k what = ((p_deep d k, fd) : Int32 × Row) := by subst c_7; simp [s_of, c_2, b2i]
        exact fr_i hx hb hr hlocks hX hC bf (congrArg (fun z => some (Value.int z)) (t2_1 hs)) (congrArg (fun z => mct G (mpg d kp as bf sc z tp it ws sz nu mv)) (t2_2 hs)).symm dX13_of_67
      by_cases c_9 : what = 6
      · refine lv_tableIn (off := 42) (tgt := 68) hx hb dX13_of_26 (by rw [c_9]; decide) (by rw [c_9]; decide) (by rw [c_9]; rfl) (by decide) ?_
        refine lv_aload_n hx hb dX13_of_68 rfl (lv_at hl 0 rfl) ?_
        refine lv_iload_n hx hb dX13_of_69 rfl (lv_at hl 1 rfl) ?_
        refine fc_V (As := [.int k]) (rest := []) hx hb hml hown hts hX hC (m_X13_wide k (kin_of hw c_2)) (lw_V q1483 q1485 qs66 q124 q1486) hdV_X13_wide ⟨rfl, rfl⟩ ⟨Nat.le_of_ble_eq_true rfl, Nat.le_of_ble_eq_true rfl⟩ (fx_recv (g := 0) (i := 0) (ci := 0) (q := (RX13, TX13, 24)) hX hC (min_ (by decide)) rfl rfl) hl.1 rfl (Nat.le_of_ble_eq_true rfl) ⟨Nat.zero_le _, Nat.zero_le _⟩ dX13_of_70 (fun _ H locs hC => ?_)
        refine W.eq (g2 := F0 m 73 ls [.int (p_wide d k)]) rfl ?_
        have hs : s_of d fd k what = ((p_wide d k, fd) : Int32 × Row) := by subst c_9; simp [s_of, c_2, b2i]
        exact fr_i hx hb hr hlocks hX hC bf (congrArg (fun z => some (Value.int z)) (t2_1 hs)) (congrArg (fun z => mct G (mpg d kp as bf sc z tp it ws sz nu mv)) (t2_2 hs)).symm dX13_of_73
      by_cases c_11 : what = 7
      · refine lv_tableIn (off := 48) (tgt := 74) hx hb dX13_of_26 (by rw [c_11]; decide) (by rw [c_11]; decide) (by rw [c_11]; rfl) (by decide) ?_
        refine lv_aload_n hx hb dX13_of_74 rfl (lv_at hl 0 rfl) ?_
        refine lv_iload_n hx hb dX13_of_75 rfl (lv_at hl 1 rfl) ?_
        refine fc_V (As := [.int k]) (rest := []) hx hb hml hown hts hX hC (m_X13_has hw k (kin_of hw c_2)) (lw_V q1487 q1489 qs67 q124 q1490) hdV_X13_has ⟨rfl, rfl⟩ ⟨Nat.le_of_ble_eq_true rfl, Nat.le_of_ble_eq_true rfl⟩ (fx_recv (g := 0) (i := 0) (ci := 0) (q := (RX13, TX13, 24)) hX hC (min_ (by decide)) rfl rfl) hl.1 rfl (Nat.le_of_ble_eq_true rfl) ⟨Nat.zero_le _, Nat.zero_le _⟩ dX13_of_76 (fun _ H locs hC => ?_)
        refine W.eq (g2 := F0 m 79 ls [.int (b2i (p_has d k))]) rfl ?_
        refine fb_eq (tgt := 86) hx hb dX13_of_79 (by decide) (fun c_13 => ?_) (fun c_13 => ?_)
        · refine lv_iconst (v := 0) hx hb dX13_of_86 rfl ?_
          have hs : s_of d fd k what = ((0, fd) : Int32 × Row) := by subst c_11; rw [s_of, if_pos c_2, if_neg (by decide), if_neg (by decide), if_neg (by decide), if_neg (by decide), if_neg (by decide), if_neg (by decide), if_neg (by decide), if_pos rfl, b2i_f c_13]
          exact fr_i hx hb hr hlocks hX hC d (congrArg (fun z => some (Value.int z)) (t2_1 hs)) (congrArg (fun z => mct G (mpg d kp as d sc z tp it ws sz nu mv)) (t2_2 hs)).symm dX13_of_87
        · refine lv_iconst (v := 1) hx hb dX13_of_82 rfl ?_
          refine lv_goto (tgt := 87) hx hb dX13_of_83 (by decide) ?_
          have hs : s_of d fd k what = ((1, fd) : Int32 × Row) := by subst c_11; rw [s_of, if_pos c_2, if_neg (by decide), if_neg (by decide), if_neg (by decide), if_neg (by decide), if_neg (by decide), if_neg (by decide), if_neg (by decide), if_pos rfl, b2i_t c_13]
          exact fr_i hx hb hr hlocks hX hC d (congrArg (fun z => some (Value.int z)) (t2_1 hs)) (congrArg (fun z => mct G (mpg d kp as d sc z tp it ws sz nu mv)) (t2_2 hs)).symm dX13_of_87
      refine lv_tableOut (tgt := 88) hx hb dX13_of_26 (tabo 4 4 (by decide) (fun k hk => match k, hk with | 0, _ => c_5 | 1, _ => c_7 | 2, _ => c_9 | 3, _ => c_11) rfl) (by decide) ?_
      rcases of_03 c_4 c_5 c_7 c_9 c_11 with qq | qq | qq | qq
      · subst qq
        refine lv_aload_n hx hb dX13_of_88 rfl (lv_at hl 0 rfl) ?_
        refine lv_iload_n hx hb dX13_of_89 rfl (lv_at hl 1 rfl) ?_
        refine lv_iload_n hx hb dX13_of_90 rfl (lv_at hl 2 rfl) ?_
        refine fc_V (As := [.int k, .int 0]) (rest := []) hx hb hml hown hts hX hC (m_X13_strikeIs_0 k (kin_of hw c_2)) (lw_V q1475 q1477 qs64 q124 q1478) hdV_X13_strikeIs ⟨rfl, rfl⟩ ⟨Nat.le_of_ble_eq_true rfl, Nat.le_of_ble_eq_true rfl⟩ (fx_recv (g := 0) (i := 0) (ci := 0) (q := (RX13, TX13, 24)) hX hC (min_ (by decide)) rfl rfl) hl.1 rfl (Nat.le_of_ble_eq_true rfl) ⟨Nat.zero_le _, Nat.zero_le _⟩ dX13_of_91 (fun _ H locs hC => ?_)
        refine W.eq (g2 := F0 m 94 ls [.int (d (92 + 4 * ix k))]) rfl ?_
        have hs : s_of d fd k 0 = ((d (92 + 4 * ix k), fd) : Int32 × Row) := by simp [s_of, c_2, ix_0, ix_1, ix_2, ix_3]
        exact fr_i hx hb hr hlocks hX hC bf (congrArg (fun z => some (Value.int z)) (t2_1 hs)) (congrArg (fun z => mct G (mpg d kp as bf sc z tp it ws sz nu mv)) (t2_2 hs)).symm dX13_of_94
      · subst qq
        refine lv_aload_n hx hb dX13_of_88 rfl (lv_at hl 0 rfl) ?_
        refine lv_iload_n hx hb dX13_of_89 rfl (lv_at hl 1 rfl) ?_
        refine lv_iload_n hx hb dX13_of_90 rfl (lv_at hl 2 rfl) ?_
        refine fc_V (As := [.int k, .int 1]) (rest := []) hx hb hml hown hts hX hC (m_X13_strikeIs_1 k (kin_of hw c_2)) (lw_V q1475 q1477 qs64 q124 q1478) hdV_X13_strikeIs ⟨rfl, rfl⟩ ⟨Nat.le_of_ble_eq_true rfl, Nat.le_of_ble_eq_true rfl⟩ (fx_recv (g := 0) (i := 0) (ci := 0) (q := (RX13, TX13, 24)) hX hC (min_ (by decide)) rfl rfl) hl.1 rfl (Nat.le_of_ble_eq_true rfl) ⟨Nat.zero_le _, Nat.zero_le _⟩ dX13_of_91 (fun _ H locs hC => ?_)
        refine W.eq (g2 := F0 m 94 ls [.int (d (93 + 4 * ix k))]) rfl ?_
        have hs : s_of d fd k 1 = ((d (93 + 4 * ix k), fd) : Int32 × Row) := by simp [s_of, c_2, ix_0, ix_1, ix_2, ix_3]
        exact fr_i hx hb hr hlocks hX hC bf (congrArg (fun z => some (Value.int z)) (t2_1 hs)) (congrArg (fun z => mct G (mpg d kp as bf sc z tp it ws sz nu mv)) (t2_2 hs)).symm dX13_of_94
      · subst qq
        refine lv_aload_n hx hb dX13_of_88 rfl (lv_at hl 0 rfl) ?_
        refine lv_iload_n hx hb dX13_of_89 rfl (lv_at hl 1 rfl) ?_
        refine lv_iload_n hx hb dX13_of_90 rfl (lv_at hl 2 rfl) ?_
        refine fc_V (As := [.int k, .int 2]) (rest := []) hx hb hml hown hts hX hC (m_X13_strikeIs_2 k (kin_of hw c_2)) (lw_V q1475 q1477 qs64 q124 q1478) hdV_X13_strikeIs ⟨rfl, rfl⟩ ⟨Nat.le_of_ble_eq_true rfl, Nat.le_of_ble_eq_true rfl⟩ (fx_recv (g := 0) (i := 0) (ci := 0) (q := (RX13, TX13, 24)) hX hC (min_ (by decide)) rfl rfl) hl.1 rfl (Nat.le_of_ble_eq_true rfl) ⟨Nat.zero_le _, Nat.zero_le _⟩ dX13_of_91 (fun _ H locs hC => ?_)
        refine W.eq (g2 := F0 m 94 ls [.int (d (94 + 4 * ix k))]) rfl ?_
        have hs : s_of d fd k 2 = ((d (94 + 4 * ix k), fd) : Int32 × Row) := by simp [s_of, c_2, ix_0, ix_1, ix_2, ix_3]
        exact fr_i hx hb hr hlocks hX hC bf (congrArg (fun z => some (Value.int z)) (t2_1 hs)) (congrArg (fun z => mct G (mpg d kp as bf sc z tp it ws sz nu mv)) (t2_2 hs)).symm dX13_of_94
      · subst qq
        refine lv_aload_n hx hb dX13_of_88 rfl (lv_at hl 0 rfl) ?_
        refine lv_iload_n hx hb dX13_of_89 rfl (lv_at hl 1 rfl) ?_
        refine lv_iload_n hx hb dX13_of_90 rfl (lv_at hl 2 rfl) ?_
        refine fc_V (As := [.int k, .int 3]) (rest := []) hx hb hml hown hts hX hC (m_X13_strikeIs_3 k (kin_of hw c_2)) (lw_V q1475 q1477 qs64 q124 q1478) hdV_X13_strikeIs ⟨rfl, rfl⟩ ⟨Nat.le_of_ble_eq_true rfl, Nat.le_of_ble_eq_true rfl⟩ (fx_recv (g := 0) (i := 0) (ci := 0) (q := (RX13, TX13, 24)) hX hC (min_ (by decide)) rfl rfl) hl.1 rfl (Nat.le_of_ble_eq_true rfl) ⟨Nat.zero_le _, Nat.zero_le _⟩ dX13_of_91 (fun _ H locs hC => ?_)
        refine W.eq (g2 := F0 m 94 ls [.int (d (95 + 4 * ix k))]) rfl ?_
        have hs : s_of d fd k 3 = ((d (95 + 4 * ix k), fd) : Int32 × Row) := by simp [s_of, c_2, ix_0, ix_1, ix_2, ix_3]
        exact fr_i hx hb hr hlocks hX hC bf (congrArg (fun z => some (Value.int z)) (t2_1 hs)) (congrArg (fun z => mct G (mpg d kp as bf sc z tp it ws sz nu mv)) (t2_2 hs)).symm dX13_of_94
    · refine lv_aload_n hx hb dX13_of_18 rfl (lv_at hl 0 rfl) ?_
      refine lv_ldc (v := (-1000001)) hx hb hown (hts _ q1403) dX13_of_19 ?_
      refine fc_V (As := [.int (-1000001)]) (rest := []) hx hb hml hown hts hX hC (m_X13_finding 0 (vin_b rfl)) (lw_V q1404 q1406 qs56 q124 q1407) hdV_X13_finding ⟨rfl, rfl⟩ ⟨Nat.le_of_ble_eq_true rfl, Nat.le_of_ble_eq_true rfl⟩ (fx_recv (g := 0) (i := 0) (ci := 0) (q := (RX13, TX13, 24)) hX hC (min_ (by decide)) rfl rfl) hl.1 rfl (Nat.le_of_ble_eq_true rfl) ⟨Nat.zero_le _, Nat.zero_le _⟩ dX13_of_21 (fun _ H locs hC => ?_)
      refine W.eq (g2 := F0 m 24 ls [.int (-1000001)]) rfl ?_
      have hs : s_of d fd k what = (((-1000001), p_find fd 0) : Int32 × Row) := by obtain ⟨h0, h1, h2, h3, h4, h5, h6, h7⟩ := of_out c_4; simp [s_of, c_2, h0, h1, h2, h3, h4, h5, h6, h7]
      exact fr_i hx hb hr hlocks hX hC bf (congrArg (fun z => some (Value.int z)) (t2_1 hs)) (congrArg (fun z => mct G (mpg d kp as bf sc z tp it ws sz nu mv)) (t2_2 hs)).symm dX13_of_24
set_option maxRecDepth 100000 in
theorem m_X13_lacks {l : Launch} {G : Gm} {d kp as bf sc fd tp it ws sz nu mv : Row} (s0 : Int32) : Cm l yX13_lacks (ws_ yX13_lacks cX13_lacks 2 (some .int)) ({ frames := 2, cells := 0, slots := 0, locals := 42 }) (mF G) [.ref (G.ad 0 0), .int s0] (mct G (mpg d kp as bf sc fd tp it ws sz nu mv)) (fun _ : Unit => some (.int (p_lack ws s0))) (fun _ => mct G (mpg d kp as bf sc fd tp it ws sz nu mv)) := by
  refine Cm.start (by decide) (Nat.le_of_ble_eq_true rfl) ?_
  intro p e s m below meth c hf hX hC ls hl
  obtain ⟨hx, hb, hr, hml, hown, hts, hlocks⟩ := hf
  have hl : lv_has ls 2 [(0, .ref (G.ad 0 0)), (1, .int s0)] := hl
  have hown : s.vm.findClass "OwlEarsModel" = some m.cls := hown
  refine lv_iload_n hx hb dX13_lacks_0 rfl (lv_at hl 1 rfl) ?_
  refine fc_S (As := [.int s0]) (rest := []) hx hb hml hown hts hX hC (m_X13_isSheet s0) (lw_S q1691 q1692 q124 q1693) hdS_X13_isSheet ⟨rfl, rfl⟩ ⟨Nat.le_of_ble_eq_true rfl, Nat.le_of_ble_eq_true rfl⟩ hl.1 rfl (Nat.le_of_ble_eq_true rfl) ⟨Nat.zero_le _, Nat.zero_le _⟩ dX13_lacks_1 (fun _ H locs hC => ?_)
  refine W.eq (g2 := F0 m 4 ls [.int (b2i (p_in s0 0 3))]) rfl ?_
  refine fb_ne (tgt := 12) hx hb dX13_lacks_4 (by decide) (fun c_2 => ?_) (fun c_2 => ?_)
  · refine lv_aload_n hx hb dX13_lacks_12 rfl (lv_at hl 0 rfl) ?_
    refine fg_get (C := RX13) (T := TX13) (N := 24) (ci := 0) (g := 0) (i := 0) (v := .ref (G.ad 0 10)) hx hb hown hts hX hC in_X13 rfl (min_ (by decide)) rfl 20 (by decide) q1330 (fun _ h => h) rfl dX13_lacks_13 ?_
    refine lv_iload_n hx hb dX13_lacks_16 rfl (lv_at hl 1 rfl) ?_
    refine fg_iald (g := 0) (i := 10) (t0 := 0) (v := ws (ix s0)) hx hb hX hC (min_ (by decide)) rfl rfl (vin_of c_2 4 (by decide)) rfl dX13_lacks_17 ?_
    refine lv_if_ne (tgt := 26) hx hb dX13_lacks_18 (by decide) (fun c_3 => ?_) (fun c_3 => ?_)
    · refine lv_iconst (v := 0) hx hb dX13_lacks_26 rfl ?_
      exact fr_i hx hb hr hlocks hX hC () (congrArg (fun z => some (Value.int z)) (by first | rfl | (simp [p_lack, c_2, c_3]))) rfl dX13_lacks_27
    · refine lv_ldc (v := (-1000006)) hx hb hown (hts _ q1694) dX13_lacks_21 ?_
      refine lv_goto (tgt := 27) hx hb dX13_lacks_23 (by decide) ?_
      exact fr_i hx hb hr hlocks hX hC () (congrArg (fun z => some (Value.int z)) (by first | rfl | (simp [p_lack, c_2, c_3]))) rfl dX13_lacks_27
  · refine lv_ldc (v := (-1000001)) hx hb hown (hts _ q1403) dX13_lacks_7 ?_
    refine lv_goto (tgt := 27) hx hb dX13_lacks_9 (by decide) ?_
    exact fr_i hx hb hr hlocks hX hC () (congrArg (fun z => some (Value.int z)) (by first | rfl | (simp [p_lack, c_2]))) rfl dX13_lacks_27
set_option maxRecDepth 100000 in
theorem m_X13_lacksFor {l : Launch} {G : Gm} {d kp as bf sc fd tp it ws sz nu mv : Row} (s0 ears : Int32) : Cm l yX13_lacksFor (ws_ yX13_lacksFor cX13_lacksFor 3 (some .int)) ({ frames := 3, cells := 0, slots := 0, locals := 63 }) (mF G) [.ref (G.ad 0 0), .int s0, .int ears] (mct G (mpg d kp as bf sc fd tp it ws sz nu mv)) (fun _ : Unit => some (.int (p_lackF ws s0 ears))) (fun _ => mct G (mpg d kp as bf sc fd tp it ws sz nu mv)) := by
  refine Cm.start (by decide) (Nat.le_of_ble_eq_true rfl) ?_
  intro p e s m below meth c hf hX hC ls hl
  obtain ⟨hx, hb, hr, hml, hown, hts, hlocks⟩ := hf
  have hl : lv_has ls 3 [(0, .ref (G.ad 0 0)), (1, .int s0), (2, .int ears)] := hl
  have hown : s.vm.findClass "OwlEarsModel" = some m.cls := hown
  refine lv_aload_n hx hb dX13_lacksFor_0 rfl (lv_at hl 0 rfl) ?_
  refine lv_iload_n hx hb dX13_lacksFor_1 rfl (lv_at hl 1 rfl) ?_
  refine fc_V (As := [.int s0]) (rest := []) hx hb hml hown hts hX hC (m_X13_lacks s0) (lw_V q1687 q1689 qs88 q124 q1690) hdV_X13_lacks ⟨rfl, rfl⟩ ⟨Nat.le_of_ble_eq_true rfl, Nat.le_of_ble_eq_true rfl⟩ (fx_recv (g := 0) (i := 0) (ci := 0) (q := (RX13, TX13, 24)) hX hC (min_ (by decide)) rfl rfl) hl.1 rfl (Nat.le_of_ble_eq_true rfl) ⟨Nat.zero_le _, Nat.zero_le _⟩ dX13_lacksFor_2 (fun _ H locs hC => ?_)
  refine W.eq (g2 := F0 m 5 ls [.int (p_lack ws s0)]) rfl ?_
  refine lv_if_eq (tgt := 16) hx hb dX13_lacksFor_5 (by decide) (fun c_2 => ?_) (fun c_2 => ?_)
  · refine lv_iload_n hx hb dX13_lacksFor_16 rfl (lv_at hl 2 rfl) ?_
    refine lv_iconst (v := 0) hx hb dX13_lacksFor_17 rfl ?_
    refine lv_iconst (v := 2) hx hb dX13_lacksFor_18 rfl ?_
    refine fc_S (As := [.int ears, .int 0, .int 2]) (rest := []) hx hb hml hown hts hX hC (m_X13_within ears 0 2) (lw_S q1390 q1391 q124 q1392) hdS_X13_within ⟨rfl, rfl⟩ ⟨Nat.le_of_ble_eq_true rfl, Nat.le_of_ble_eq_true rfl⟩ hl.1 rfl (Nat.le_of_ble_eq_true rfl) ⟨Nat.zero_le _, Nat.zero_le _⟩ dX13_lacksFor_19 (fun _ H locs hC => ?_)
    refine W.eq (g2 := F0 m 22 ls [.int (b2i (p_in ears 0 2))]) rfl ?_
    refine fb_eq (tgt := 29) hx hb dX13_lacksFor_22 (by decide) (fun c_4 => ?_) (fun c_4 => ?_)
    · refine lv_ldc (v := (-1000001)) hx hb hown (hts _ q1403) dX13_lacksFor_29 ?_
      exact fr_i hx hb hr hlocks hX hC () (congrArg (fun z => some (Value.int z)) (by first | rfl | (simp [p_lackF, c_2, c_4]))) rfl dX13_lacksFor_31
    · refine lv_iconst (v := 0) hx hb dX13_lacksFor_25 rfl ?_
      refine lv_goto (tgt := 31) hx hb dX13_lacksFor_26 (by decide) ?_
      exact fr_i hx hb hr hlocks hX hC () (congrArg (fun z => some (Value.int z)) (by first | rfl | (simp [p_lackF, c_2, c_4]))) rfl dX13_lacksFor_31
  · refine lv_aload_n hx hb dX13_lacksFor_8 rfl (lv_at hl 0 rfl) ?_
    refine lv_iload_n hx hb dX13_lacksFor_9 rfl (lv_at hl 1 rfl) ?_
    refine fc_V (As := [.int s0]) (rest := []) hx hb hml hown hts hX hC (m_X13_lacks s0) (lw_V q1687 q1689 qs88 q124 q1690) hdV_X13_lacks ⟨rfl, rfl⟩ ⟨Nat.le_of_ble_eq_true rfl, Nat.le_of_ble_eq_true rfl⟩ (fx_recv (g := 0) (i := 0) (ci := 0) (q := (RX13, TX13, 24)) hX hC (min_ (by decide)) rfl rfl) hl.1 rfl (Nat.le_of_ble_eq_true rfl) ⟨Nat.zero_le _, Nat.zero_le _⟩ dX13_lacksFor_10 (fun _ H locs hC => ?_)
    refine W.eq (g2 := F0 m 13 ls [.int (p_lack ws s0)]) rfl ?_
    refine lv_goto (tgt := 31) hx hb dX13_lacksFor_13 (by decide) ?_
    exact fr_i hx hb hr hlocks hX hC () (congrArg (fun z => some (Value.int z)) (by first | rfl | (simp [p_lackF, c_2]))) rfl dX13_lacksFor_31
set_option maxRecDepth 100000 in
theorem m_X13_isHeardSo {l : Launch} {G : Gm} {d kp as bf sc fd tp it ws sz nu mv : Row} (hw : WF d) (v ears : Int32) (he : p_in ears 0 2) : Cm l yX13_isHeardSo (ws_ yX13_isHeardSo cX13_isHeardSo 5 (some .boolean)) ({ frames := 4, cells := 0, slots := 0, locals := 81 }) (mF G) [.ref (G.ad 0 0), .int v, .int ears] (mct G (mpg d kp as bf sc fd tp it ws sz nu mv)) (fun _ : Unit => some (.int (b2i (p_isSo d v ears)))) (fun _ => mct G (mpg d kp as bf sc fd tp it ws sz nu mv)) := by
  refine Cm.start (by decide) (Nat.le_of_ble_eq_true rfl) ?_
  intro p e s m below meth c hf hX hC ls hl
  obtain ⟨hx, hb, hr, hml, hown, hts, hlocks⟩ := hf
  have hl : lv_has ls 5 [(0, .ref (G.ad 0 0)), (1, .int v), (2, .int ears)] := hl
  have hown : s.vm.findClass "OwlEarsModel" = some m.cls := hown
  refine lv_iload_n hx hb dX13_isHeardSo_0 rfl (lv_at hl 1 rfl) ?_
  refine lv_iconst (v := (-1)) hx hb dX13_isHeardSo_1 rfl ?_
  refine lv_icmp_lt (tgt := 11) hx hb dX13_isHeardSo_2 (by decide) (fun c_1 => ?_) (fun c_1 => ?_)
  · refine lv_iconst (v := 1) hx hb dX13_isHeardSo_11 rfl ?_
    exact fr_z hx hb hr rfl hlocks hX hC () (congrArg (fun z => some (Value.int z)) (b2i_t (by have he2 := in02.mp he; grind [e_pm]))) rfl dX13_isHeardSo_12
  · refine lv_iload_n hx hb dX13_isHeardSo_5 rfl (lv_at hl 1 rfl) ?_
    refine lv_bipush (v := 8) hx hb dX13_isHeardSo_6 rfl ?_
    refine fj_le (tgt := 13) hx hb dX13_isHeardSo_8 (by decide) (fun c_2 => ?_) (fun c_2 => ?_)
    · refine lv_iload_n hx hb dX13_isHeardSo_13 rfl (lv_at hl 1 rfl) ?_
      refine lv_iconst (v := (-1)) hx hb dX13_isHeardSo_14 rfl ?_
      refine lv_icmp_eq (tgt := 25) hx hb dX13_isHeardSo_15 (by decide) (fun c_3 => ?_) (fun c_3 => ?_)
      · refine lv_iload_n hx hb dX13_isHeardSo_25 rfl (lv_at hl 1 rfl) ?_
        refine lv_iconst (v := (-1)) hx hb dX13_isHeardSo_26 rfl ?_
        refine lv_icmp_ne (tgt := 41) hx hb dX13_isHeardSo_27 (by decide) (fun z_4 => absurd c_3 z_4) (fun _ => ?_)
        refine lv_aload_n hx hb dX13_isHeardSo_30 rfl (lv_at hl 0 rfl) ?_
        refine fc_V (As := []) (rest := []) hx hb hml hown hts hX hC (m_X13_hears hw) (lw_V q1535 q1537 qs72 q124 q1538) hdV_X13_hears ⟨rfl, rfl⟩ ⟨Nat.le_of_ble_eq_true rfl, Nat.le_of_ble_eq_true rfl⟩ (fx_recv (g := 0) (i := 0) (ci := 0) (q := (RX13, TX13, 24)) hX hC (min_ (by decide)) rfl rfl) hl.1 rfl (Nat.le_of_ble_eq_true rfl) ⟨Nat.zero_le _, Nat.zero_le _⟩ dX13_isHeardSo_31 (fun _ H locs hC => ?_)
        refine W.eq (g2 := F0 m 34 ls [.int (b2i (p_hears d))]) rfl ?_
        refine fb_ne (tgt := 41) hx hb dX13_isHeardSo_34 (by decide) (fun c_6 => ?_) (fun c_6 => ?_)
        · refine lv_iconst (v := 0) hx hb dX13_isHeardSo_41 rfl ?_
          exact fr_z hx hb hr rfl hlocks hX hC () (congrArg (fun z => some (Value.int z)) (b2i_f (by have he2 := in02.mp he; grind [e_pm]))) rfl dX13_isHeardSo_42
        · refine lv_iconst (v := 1) hx hb dX13_isHeardSo_37 rfl ?_
          refine lv_goto (tgt := 42) hx hb dX13_isHeardSo_38 (by decide) ?_
          exact fr_z hx hb hr rfl hlocks hX hC () (congrArg (fun z => some (Value.int z)) (b2i_t (by have he2 := in02.mp he; grind [e_pm]))) rfl dX13_isHeardSo_42
      · refine lv_aload_n hx hb dX13_isHeardSo_18 rfl (lv_at hl 0 rfl) ?_
        refine fc_V (As := []) (rest := []) hx hb hml hown hts hX hC (m_X13_hears hw) (lw_V q1535 q1537 qs72 q124 q1538) hdV_X13_hears ⟨rfl, rfl⟩ ⟨Nat.le_of_ble_eq_true rfl, Nat.le_of_ble_eq_true rfl⟩ (fx_recv (g := 0) (i := 0) (ci := 0) (q := (RX13, TX13, 24)) hX hC (min_ (by decide)) rfl rfl) hl.1 rfl (Nat.le_of_ble_eq_true rfl) ⟨Nat.zero_le _, Nat.zero_le _⟩ dX13_isHeardSo_19 (fun _ H locs hC => ?_)
        refine W.eq (g2 := F0 m 22 ls [.int (b2i (p_hears d))]) rfl ?_
        refine fb_ne (tgt := 43) hx hb dX13_isHeardSo_22 (by decide) (fun c_8 => ?_) (fun c_8 => ?_)
        · refine lv_iload_n hx hb dX13_isHeardSo_43 rfl (lv_at hl 1 rfl) ?_
          refine lv_iconst (v := 3) hx hb dX13_isHeardSo_44 rfl ?_
          refine lv_idiv hx hb dX13_isHeardSo_45 (by decide) ?_
          refine lv_aload_n hx hb dX13_isHeardSo_46 rfl (lv_at hl 0 rfl) ?_
          refine fc_V (As := []) (rest := [.int (v / 3)]) hx hb hml hown hts hX hC (m_X13_side) (lw_V q1550 q1552 qs75 q124 q1553) hdV_X13_side ⟨rfl, rfl⟩ ⟨Nat.le_of_ble_eq_true rfl, Nat.le_of_ble_eq_true rfl⟩ (fx_recv (g := 0) (i := 0) (ci := 0) (q := (RX13, TX13, 24)) hX hC (min_ (by decide)) rfl rfl) hl.1 rfl (Nat.le_of_ble_eq_true rfl) ⟨Nat.zero_le _, Nat.zero_le _⟩ dX13_isHeardSo_47 (fun _ H locs hC => ?_)
          refine W.eq (g2 := F0 m 50 ls [.int (p_side d), .int (v / 3)]) rfl ?_
          refine lv_iconst (v := 1) hx hb dX13_isHeardSo_50 rfl ?_
          refine lv_iadd hx hb dX13_isHeardSo_51 ?_
          refine lv_icmp_ne (tgt := 59) hx hb dX13_isHeardSo_52 (by decide) (fun c_10 => ?_) (fun c_10 => ?_)
          · refine lv_iconst (v := 0) hx hb dX13_isHeardSo_59 rfl ?_
            refine lv_istore_n (lv' := [(3, .int 0), (0, .ref (G.ad 0 0)), (1, .int v), (2, .int ears)]) hx hb dX13_isHeardSo_60 rfl hl (by decide) rfl (fun ls hl => ?_)
            refine lv_iload_n hx hb dX13_isHeardSo_61 rfl (lv_at hl 2 rfl) ?_
            refine lv_iconst (v := 3) hx hb dX13_isHeardSo_62 rfl ?_
            refine fw_irem hx hb dX13_isHeardSo_63 (by decide) ?_
            refine lv_aload_n hx hb dX13_isHeardSo_64 rfl (lv_at hl 1 rfl) ?_
            refine fc_V (As := []) (rest := [.int (rm v 3)]) hx hb hml hown hts hX hC (m_X13_high) (lw_V q1543 q1545 qs74 q124 q1546) hdV_X13_high ⟨rfl, rfl⟩ ⟨Nat.le_of_ble_eq_true rfl, Nat.le_of_ble_eq_true rfl⟩ (fx_recv (g := 0) (i := 0) (ci := 0) (q := (RX13, TX13, 24)) hX hC (min_ (by decide)) rfl rfl) hl.1 rfl (Nat.le_of_ble_eq_true rfl) ⟨Nat.zero_le _, Nat.zero_le _⟩ dX13_isHeardSo_65 (fun _ H locs hC => ?_)
            refine W.eq (g2 := F0 m 68 ls [.int (p_high d), .int (rm v 3)]) rfl ?_
            refine lv_iconst (v := 1) hx hb dX13_isHeardSo_68 rfl ?_
            refine lv_iadd hx hb dX13_isHeardSo_69 ?_
            refine lv_icmp_ne (tgt := 77) hx hb dX13_isHeardSo_70 (by decide) (fun c_12 => ?_) (fun c_12 => ?_)
            · refine lv_iconst (v := 0) hx hb dX13_isHeardSo_77 rfl ?_
              refine lv_istore (lv' := [(4, .int 0), (3, .int 0), (0, .ref (G.ad 0 0)), (1, .int v), (2, .int ears)]) hx hb dX13_isHeardSo_78 hl (by decide) rfl (fun ls hl => ?_)
              refine lv_iload_n hx hb dX13_isHeardSo_80 rfl (lv_at hl 4 rfl) ?_
              refine lv_if_ne (tgt := 101) hx hb dX13_isHeardSo_81 (by decide) (fun c_13 => ?_) (fun c_13 => ?_)
              · refine lv_iload_n hx hb dX13_isHeardSo_101 rfl (lv_at hl 4 rfl) ?_
                refine lv_iconst (v := 1) hx hb dX13_isHeardSo_102 rfl ?_
                refine lv_icmp_ne (tgt := 110) hx hb dX13_isHeardSo_103 (by decide) (fun c_14 => ?_) (fun c_14 => ?_)
                · refine lv_iload hx hb dX13_isHeardSo_110 (lv_at hl 0 rfl) ?_
                  exact fr_z hx hb hr rfl hlocks hX hC () (congrArg (fun z => some (Value.int z)) (b2i_f (by have he2 := in02.mp he; grind [e_pm]))) rfl dX13_isHeardSo_112
                · refine lv_iload_n hx hb dX13_isHeardSo_106 rfl (lv_at hl 1 rfl) ?_
                  refine lv_goto (tgt := 112) hx hb dX13_isHeardSo_107 (by decide) ?_
                  exact fr_z hx hb hr rfl hlocks hX hC () (congrArg (fun z => some (Value.int z)) (b2i_f (by have he2 := in02.mp he; grind [e_pm]))) rfl dX13_isHeardSo_112
              · refine lv_iload_n hx hb dX13_isHeardSo_84 rfl (lv_at hl 1 rfl) ?_
                refine lv_if_eq (tgt := 97) hx hb dX13_isHeardSo_85 (by decide) (fun _ => ?_) (fun z_15 => absurd (by decide) z_15)
                refine lv_iconst (v := 0) hx hb dX13_isHeardSo_97 rfl ?_
                refine lv_goto (tgt := 112) hx hb dX13_isHeardSo_98 (by decide) ?_
                exact fr_z hx hb hr rfl hlocks hX hC () (congrArg (fun z => some (Value.int z)) (b2i_f (by have he2 := in02.mp he; grind [e_pm]))) rfl dX13_isHeardSo_112
            · refine lv_iconst (v := 1) hx hb dX13_isHeardSo_73 rfl ?_
              refine lv_goto (tgt := 78) hx hb dX13_isHeardSo_74 (by decide) ?_
              refine lv_istore (lv' := [(4, .int 1), (3, .int 0), (0, .ref (G.ad 0 0)), (1, .int v), (2, .int ears)]) hx hb dX13_isHeardSo_78 hl (by decide) rfl (fun ls hl => ?_)
              refine lv_iload_n hx hb dX13_isHeardSo_80 rfl (lv_at hl 4 rfl) ?_
              refine lv_if_ne (tgt := 101) hx hb dX13_isHeardSo_81 (by decide) (fun c_16 => ?_) (fun c_16 => ?_)
              · refine lv_iload_n hx hb dX13_isHeardSo_101 rfl (lv_at hl 4 rfl) ?_
                refine lv_iconst (v := 1) hx hb dX13_isHeardSo_102 rfl ?_
                refine lv_icmp_ne (tgt := 110) hx hb dX13_isHeardSo_103 (by decide) (fun c_17 => ?_) (fun c_17 => ?_)
                · refine lv_iload hx hb dX13_isHeardSo_110 (lv_at hl 0 rfl) ?_
                  exact fr_z hx hb hr rfl hlocks hX hC () (congrArg (fun z => some (Value.int z)) (b2i_t (by have he2 := in02.mp he; grind [e_pm]))) rfl dX13_isHeardSo_112
                · refine lv_iload_n hx hb dX13_isHeardSo_106 rfl (lv_at hl 1 rfl) ?_
                  refine lv_goto (tgt := 112) hx hb dX13_isHeardSo_107 (by decide) ?_
                  exact fr_z hx hb hr rfl hlocks hX hC () (congrArg (fun z => some (Value.int z)) (b2i_f (by have he2 := in02.mp he; grind [e_pm]))) rfl dX13_isHeardSo_112
              · refine lv_iload_n hx hb dX13_isHeardSo_84 rfl (lv_at hl 1 rfl) ?_
                refine lv_if_eq (tgt := 97) hx hb dX13_isHeardSo_85 (by decide) (fun _ => ?_) (fun z_18 => absurd (by decide) z_18)
                refine lv_iconst (v := 0) hx hb dX13_isHeardSo_97 rfl ?_
                refine lv_goto (tgt := 112) hx hb dX13_isHeardSo_98 (by decide) ?_
                exact fr_z hx hb hr rfl hlocks hX hC () (congrArg (fun z => some (Value.int z)) (b2i_f (by have he2 := in02.mp he; grind [e_pm]))) rfl dX13_isHeardSo_112
          · refine lv_iconst (v := 1) hx hb dX13_isHeardSo_55 rfl ?_
            refine lv_goto (tgt := 60) hx hb dX13_isHeardSo_56 (by decide) ?_
            refine lv_istore_n (lv' := [(3, .int 1), (0, .ref (G.ad 0 0)), (1, .int v), (2, .int ears)]) hx hb dX13_isHeardSo_60 rfl hl (by decide) rfl (fun ls hl => ?_)
            refine lv_iload_n hx hb dX13_isHeardSo_61 rfl (lv_at hl 2 rfl) ?_
            refine lv_iconst (v := 3) hx hb dX13_isHeardSo_62 rfl ?_
            refine fw_irem hx hb dX13_isHeardSo_63 (by decide) ?_
            refine lv_aload_n hx hb dX13_isHeardSo_64 rfl (lv_at hl 1 rfl) ?_
            refine fc_V (As := []) (rest := [.int (rm v 3)]) hx hb hml hown hts hX hC (m_X13_high) (lw_V q1543 q1545 qs74 q124 q1546) hdV_X13_high ⟨rfl, rfl⟩ ⟨Nat.le_of_ble_eq_true rfl, Nat.le_of_ble_eq_true rfl⟩ (fx_recv (g := 0) (i := 0) (ci := 0) (q := (RX13, TX13, 24)) hX hC (min_ (by decide)) rfl rfl) hl.1 rfl (Nat.le_of_ble_eq_true rfl) ⟨Nat.zero_le _, Nat.zero_le _⟩ dX13_isHeardSo_65 (fun _ H locs hC => ?_)
            refine W.eq (g2 := F0 m 68 ls [.int (p_high d), .int (rm v 3)]) rfl ?_
            refine lv_iconst (v := 1) hx hb dX13_isHeardSo_68 rfl ?_
            refine lv_iadd hx hb dX13_isHeardSo_69 ?_
            refine lv_icmp_ne (tgt := 77) hx hb dX13_isHeardSo_70 (by decide) (fun c_20 => ?_) (fun c_20 => ?_)
            · refine lv_iconst (v := 0) hx hb dX13_isHeardSo_77 rfl ?_
              refine lv_istore (lv' := [(4, .int 0), (3, .int 1), (0, .ref (G.ad 0 0)), (1, .int v), (2, .int ears)]) hx hb dX13_isHeardSo_78 hl (by decide) rfl (fun ls hl => ?_)
              refine lv_iload_n hx hb dX13_isHeardSo_80 rfl (lv_at hl 4 rfl) ?_
              refine lv_if_ne (tgt := 101) hx hb dX13_isHeardSo_81 (by decide) (fun c_21 => ?_) (fun c_21 => ?_)
              · refine lv_iload_n hx hb dX13_isHeardSo_101 rfl (lv_at hl 4 rfl) ?_
                refine lv_iconst (v := 1) hx hb dX13_isHeardSo_102 rfl ?_
                refine lv_icmp_ne (tgt := 110) hx hb dX13_isHeardSo_103 (by decide) (fun c_22 => ?_) (fun c_22 => ?_)
                · refine lv_iload hx hb dX13_isHeardSo_110 (lv_at hl 0 rfl) ?_
                  exact fr_z hx hb hr rfl hlocks hX hC () (congrArg (fun z => some (Value.int z)) (b2i_f (by have he2 := in02.mp he; grind [e_pm]))) rfl dX13_isHeardSo_112
                · refine lv_iload_n hx hb dX13_isHeardSo_106 rfl (lv_at hl 1 rfl) ?_
                  refine lv_goto (tgt := 112) hx hb dX13_isHeardSo_107 (by decide) ?_
                  exact fr_z hx hb hr rfl hlocks hX hC () (congrArg (fun z => some (Value.int z)) (b2i_t (by have he2 := in02.mp he; grind [e_pm]))) rfl dX13_isHeardSo_112
              · refine lv_iload_n hx hb dX13_isHeardSo_84 rfl (lv_at hl 1 rfl) ?_
                refine lv_if_eq (tgt := 97) hx hb dX13_isHeardSo_85 (by decide) (fun z_23 => absurd z_23 (by decide)) (fun _ => ?_)
                refine lv_iload hx hb dX13_isHeardSo_88 (lv_at hl 0 rfl) ?_
                refine lv_if_eq (tgt := 97) hx hb dX13_isHeardSo_90 (by decide) (fun _ => ?_) (fun z_24 => absurd (by decide) z_24)
                refine lv_iconst (v := 0) hx hb dX13_isHeardSo_97 rfl ?_
                refine lv_goto (tgt := 112) hx hb dX13_isHeardSo_98 (by decide) ?_
                exact fr_z hx hb hr rfl hlocks hX hC () (congrArg (fun z => some (Value.int z)) (b2i_f (by have he2 := in02.mp he; grind [e_pm]))) rfl dX13_isHeardSo_112
            · refine lv_iconst (v := 1) hx hb dX13_isHeardSo_73 rfl ?_
              refine lv_goto (tgt := 78) hx hb dX13_isHeardSo_74 (by decide) ?_
              refine lv_istore (lv' := [(4, .int 1), (3, .int 1), (0, .ref (G.ad 0 0)), (1, .int v), (2, .int ears)]) hx hb dX13_isHeardSo_78 hl (by decide) rfl (fun ls hl => ?_)
              refine lv_iload_n hx hb dX13_isHeardSo_80 rfl (lv_at hl 4 rfl) ?_
              refine lv_if_ne (tgt := 101) hx hb dX13_isHeardSo_81 (by decide) (fun c_25 => ?_) (fun c_25 => ?_)
              · refine lv_iload_n hx hb dX13_isHeardSo_101 rfl (lv_at hl 4 rfl) ?_
                refine lv_iconst (v := 1) hx hb dX13_isHeardSo_102 rfl ?_
                refine lv_icmp_ne (tgt := 110) hx hb dX13_isHeardSo_103 (by decide) (fun c_26 => ?_) (fun c_26 => ?_)
                · refine lv_iload hx hb dX13_isHeardSo_110 (lv_at hl 0 rfl) ?_
                  exact fr_z hx hb hr rfl hlocks hX hC () (congrArg (fun z => some (Value.int z)) (b2i_t (by have he2 := in02.mp he; grind [e_pm]))) rfl dX13_isHeardSo_112
                · refine lv_iload_n hx hb dX13_isHeardSo_106 rfl (lv_at hl 1 rfl) ?_
                  refine lv_goto (tgt := 112) hx hb dX13_isHeardSo_107 (by decide) ?_
                  exact fr_z hx hb hr rfl hlocks hX hC () (congrArg (fun z => some (Value.int z)) (b2i_t (by have he2 := in02.mp he; grind [e_pm]))) rfl dX13_isHeardSo_112
              · refine lv_iload_n hx hb dX13_isHeardSo_84 rfl (lv_at hl 1 rfl) ?_
                refine lv_if_eq (tgt := 97) hx hb dX13_isHeardSo_85 (by decide) (fun z_27 => absurd z_27 (by decide)) (fun _ => ?_)
                refine lv_iload hx hb dX13_isHeardSo_88 (lv_at hl 0 rfl) ?_
                refine lv_if_eq (tgt := 97) hx hb dX13_isHeardSo_90 (by decide) (fun z_28 => absurd z_28 (by decide)) (fun _ => ?_)
                refine lv_iconst (v := 1) hx hb dX13_isHeardSo_93 rfl ?_
                refine lv_goto (tgt := 112) hx hb dX13_isHeardSo_94 (by decide) ?_
                exact fr_z hx hb hr rfl hlocks hX hC () (congrArg (fun z => some (Value.int z)) (b2i_t (by have he2 := in02.mp he; grind [e_pm]))) rfl dX13_isHeardSo_112
        · refine lv_iload_n hx hb dX13_isHeardSo_25 rfl (lv_at hl 1 rfl) ?_
          refine lv_iconst (v := (-1)) hx hb dX13_isHeardSo_26 rfl ?_
          refine lv_icmp_ne (tgt := 41) hx hb dX13_isHeardSo_27 (by decide) (fun _ => ?_) (fun z_29 => absurd z_29 c_3)
          refine lv_iconst (v := 0) hx hb dX13_isHeardSo_41 rfl ?_
          exact fr_z hx hb hr rfl hlocks hX hC () (congrArg (fun z => some (Value.int z)) (b2i_f (by have he2 := in02.mp he; grind [e_pm]))) rfl dX13_isHeardSo_42
    · refine lv_iconst (v := 1) hx hb dX13_isHeardSo_11 rfl ?_
      exact fr_z hx hb hr rfl hlocks hX hC () (congrArg (fun z => some (Value.int z)) (b2i_t (by have he2 := in02.mp he; grind [e_pm]))) rfl dX13_isHeardSo_12
set_option maxRecDepth 100000 in
theorem m_X13_wasHeard {l : Launch} {G : Gm} {d kp as bf sc fd tp it ws sz nu mv : Row} (hw : WF d) (s0 ears : Int32) (hs : vp_in s0 4) (hz : WS ws sz) (he : p_in ears 0 2) : Cm l yX13_wasHeard (ws_ yX13_wasHeard cX13_wasHeard 5 (some .boolean)) ({ frames := 5, cells := 0, slots := 0, locals := 105 }) (mF G) [.ref (G.ad 0 0), .int s0, .int ears] (mct G (mpg d kp as bf sc fd tp it ws sz nu mv)) (fun _ : Unit => some (.int (b2i (p_areSo d nu (40 * ix s0) (ix (sz (ix s0))) ears)))) (fun _ => mct G (mpg d kp d bf sc fd tp it ws sz nu mv)) := by
  refine Cm.start (by decide) (Nat.le_of_ble_eq_true rfl) ?_
  intro p e s m below meth c hf hX hC ls hl
  obtain ⟨hx, hb, hr, hml, hown, hts, hlocks⟩ := hf
  have hl : lv_has ls 5 [(0, .ref (G.ad 0 0)), (1, .int s0), (2, .int ears)] := hl
  have hown : s.vm.findClass "OwlEarsModel" = some m.cls := hown
  have h40 := hz.sz (vin_lt hs)
  refine lv_aload_n hx hb dX13_wasHeard_0 rfl (lv_at hl 0 rfl) ?_
  refine fg_get (C := RX13) (T := TX13) (N := 24) (ci := 0) (g := 0) (i := 0) (v := .ref (G.ad 0 1)) hx hb hown hts hX hC in_X13 rfl (min_ (by decide)) rfl 0 (by decide) q1310 (fun _ h => h) rfl dX13_wasHeard_1 ?_
  refine lv_aload_n hx hb dX13_wasHeard_4 rfl (lv_at hl 0 rfl) ?_
  refine fg_get (C := RX13) (T := TX13) (N := 24) (ci := 0) (g := 0) (i := 0) (v := .ref (G.ad 0 3)) hx hb hown hts hX hC in_X13 rfl (min_ (by decide)) rfl 2 (by decide) q1312 (fun _ h => h) rfl dX13_wasHeard_5 ?_
  refine fc_S (As := [.ref (G.ad 0 1), .ref (G.ad 0 3)]) (rest := []) hx hb hml hown hts hX hC (m_X13_copyRow (g1 := 0) (i1 := 1) (g2 := 0) (i2 := 3) (t0 := 0) (ctn := mct G (mpg d kp d bf sc fd tp it ws sz nu mv)) (min_ (by decide)) rfl (min_ (by decide)) rfl rfl (by decide) (mu mp3 (fun _ _ h => h))) (lw_S q1491 q1492 q124 q1493) hdS_X13_copyRow ⟨rfl, rfl⟩ ⟨Nat.le_of_ble_eq_true rfl, Nat.le_of_ble_eq_true rfl⟩ hl.1 rfl (Nat.le_of_ble_eq_true rfl) ⟨Nat.zero_le _, Nat.zero_le _⟩ dX13_wasHeard_8 (fun _ H locs hC => ?_)
  refine W.eq (g2 := F0 m 11 ls []) rfl ?_
  refine lv_iconst (v := 1) hx hb dX13_wasHeard_11 rfl ?_
  refine lv_istore_n (lv' := [(3, .int 1), (0, .ref (G.ad 0 0)), (1, .int s0), (2, .int ears)]) hx hb dX13_wasHeard_12 rfl hl (by decide) rfl (fun ls hl => ?_)
  refine lv_iconst (v := 0) hx hb dX13_wasHeard_13 rfl ?_
  refine lv_istore (lv' := [(4, .int 0), (3, .int 1), (0, .ref (G.ad 0 0)), (1, .int s0), (2, .int ears)]) hx hb dX13_wasHeard_14 hl (by decide) rfl (fun ls hl => ?_)
  have L_1 : ∀ (k1 i1 : Nat), i1 + k1 = ix (sz (ix s0)) → p_areSo d nu (40 * ix s0) i1 ears → ∀ (H : Heap) (locs : List Loc), fC (mF G) (mct G (mpg (p_ticks i1 d) kp d bf sc fd tp it ws sz nu mv)) s.heap H locs → ∀ ls : Array Slot, lv_has ls 5 [(4, .int (nI i1)), (3, .int 1), (0, .ref (G.ad 0 0)), (1, .int s0), (2, .int ears)] → WG p l e ({ frames := 5, cells := 0, slots := 0, locals := 105 }) s m (([.ref (G.ad 0 0), .int s0, .int ears] : List Value).toArray) below meth c H locs (mF G) (fun _ : Unit => some (.int (b2i (p_areSo d nu (40 * ix s0) (ix (sz (ix s0))) ears)))) (fun _ => mct G (mpg d kp d bf sc fd tp it ws sz nu mv)) (F0 m 16 ls []) := by
    intro k1
    induction k1 with
    | zero =>
      intro i1 hi1 hJ1 H locs hC ls hl
      obtain rfl : i1 = ix (sz (ix s0)) := by omega
      refine lv_iload hx hb dX13_wasHeard_16 (lv_at hl 0 rfl) ?_
      refine lv_aload_n hx hb dX13_wasHeard_18 rfl (lv_at hl 2 rfl) ?_
      refine fg_get (C := RX13) (T := TX13) (N := 24) (ci := 0) (g := 0) (i := 0) (v := .ref (G.ad 0 11)) hx hb hown hts hX hC in_X13 rfl (min_ (by decide)) rfl 21 (by decide) q1331 (fun _ h => h) rfl dX13_wasHeard_19 ?_
      refine lv_iload_n hx hb dX13_wasHeard_22 rfl (lv_at hl 3 rfl) ?_
      refine fg_iald (g := 0) (i := 11) (t0 := 0) (v := sz (ix s0)) hx hb hX hC (min_ (by decide)) rfl rfl hs rfl dX13_wasHeard_23 ?_
      refine fj_ge (tgt := 59) hx hb dX13_wasHeard_24 (by decide) (fun _ => ?_) (fun z_2 => absurd z_2 (nlt_ix (n := sz (ix s0))))
      refine lv_aload_n hx hb dX13_wasHeard_59 rfl (lv_at hl 2 rfl) ?_
      refine fg_get (C := RX13) (T := TX13) (N := 24) (ci := 0) (g := 0) (i := 0) (v := .ref (G.ad 0 3)) hx hb hown hts hX hC in_X13 rfl (min_ (by decide)) rfl 2 (by decide) q1312 (fun _ h => h) rfl dX13_wasHeard_60 ?_
      refine lv_aload_n hx hb dX13_wasHeard_63 rfl (lv_at hl 2 rfl) ?_
      refine fg_get (C := RX13) (T := TX13) (N := 24) (ci := 0) (g := 0) (i := 0) (v := .ref (G.ad 0 1)) hx hb hown hts hX hC in_X13 rfl (min_ (by decide)) rfl 0 (by decide) q1310 (fun _ h => h) rfl dX13_wasHeard_64 ?_
      refine fc_S (As := [.ref (G.ad 0 3), .ref (G.ad 0 1)]) (rest := []) hx hb hml hown hts hX hC (m_X13_copyRow (g1 := 0) (i1 := 3) (g2 := 0) (i2 := 1) (t0 := 0) (ctn := mct G (mpg d kp d bf sc fd tp it ws sz nu mv)) (min_ (by decide)) rfl (min_ (by decide)) rfl rfl (by decide) (mu mp1 (fun _ _ h => h))) (lw_S q1491 q1492 q124 q1493) hdS_X13_copyRow ⟨rfl, rfl⟩ ⟨Nat.le_of_ble_eq_true rfl, Nat.le_of_ble_eq_true rfl⟩ hl.1 rfl (Nat.le_of_ble_eq_true rfl) ⟨Nat.zero_le _, Nat.zero_le _⟩ dX13_wasHeard_67 (fun _ H locs hC => ?_)
      refine W.eq (g2 := F0 m 70 ls []) rfl ?_
      refine lv_iload_n hx hb dX13_wasHeard_70 rfl (lv_at hl 1 rfl) ?_
      exact fr_z hx hb hr rfl hlocks hX hC () (congrArg (fun z => some (Value.int z)) (b2i_t (hJ1))) rfl dX13_wasHeard_71
    | succ k1 ih1 =>
      intro i1 hi1 hJ1 H locs hC ls hl
      refine lv_iload hx hb dX13_wasHeard_16 (lv_at hl 0 rfl) ?_
      refine lv_aload_n hx hb dX13_wasHeard_18 rfl (lv_at hl 2 rfl) ?_
      refine fg_get (C := RX13) (T := TX13) (N := 24) (ci := 0) (g := 0) (i := 0) (v := .ref (G.ad 0 11)) hx hb hown hts hX hC in_X13 rfl (min_ (by decide)) rfl 21 (by decide) q1331 (fun _ h => h) rfl dX13_wasHeard_19 ?_
      refine lv_iload_n hx hb dX13_wasHeard_22 rfl (lv_at hl 3 rfl) ?_
      refine fg_iald (g := 0) (i := 11) (t0 := 0) (v := sz (ix s0)) hx hb hX hC (min_ (by decide)) rfl rfl hs rfl dX13_wasHeard_23 ?_
      refine fj_ge (tgt := 59) hx hb dX13_wasHeard_24 (by decide) (fun z_3 => absurd (lt_ix (n := sz (ix s0)) (show i1 < ix (sz (ix s0)) by omega)) z_3) (fun _ => ?_)
      refine lv_iload_n hx hb dX13_wasHeard_27 rfl (lv_at hl 1 rfl) ?_
      refine lv_if_eq (tgt := 59) hx hb dX13_wasHeard_28 (by decide) (fun z_4 => absurd z_4 (by decide)) (fun _ => ?_)
      refine lv_aload_n hx hb dX13_wasHeard_31 rfl (lv_at hl 2 rfl) ?_
      refine lv_aload_n hx hb dX13_wasHeard_32 rfl (lv_at hl 2 rfl) ?_
      refine fg_get (C := RX13) (T := TX13) (N := 24) (ci := 0) (g := 0) (i := 0) (v := .ref (G.ad 0 12)) hx hb hown hts hX hC in_X13 rfl (min_ (by decide)) rfl 22 (by decide) q1332 (fun _ h => h) rfl dX13_wasHeard_33 ?_
      refine lv_bipush (v := 40) hx hb dX13_wasHeard_36 rfl ?_
      refine lv_iload_n hx hb dX13_wasHeard_38 rfl (lv_at hl 3 rfl) ?_
      refine lv_imul hx hb dX13_wasHeard_39 ?_
      refine lv_iload hx hb dX13_wasHeard_40 (lv_at hl 0 rfl) ?_
      refine lv_iadd hx hb dX13_wasHeard_42 ?_
      refine fg_iald (g := 0) (i := 12) (t0 := 0) (v := nu (40 * ix s0 + i1)) hx hb hX hC (min_ (by decide)) rfl rfl (vins hs (vp_in_nI (show i1 < 40 by omega) (by decide)) (by decide)) (congrArg nu ((ixs hs (vp_in_nI (show i1 < 40 by omega) (by decide)) (by decide)).trans (congrArg (fun z => 40 * ix s0 + z) (nI_clamp (by omega))))) dX13_wasHeard_43 ?_
      refine lv_iload_n hx hb dX13_wasHeard_44 rfl (lv_at hl 4 rfl) ?_
      refine fc_V (As := [.int (nu (40 * ix s0 + i1)), .int ears]) (rest := []) hx hb hml hown hts hX hC (m_X13_isHeardSo (hw.ticks _) (nu (40 * ix s0 + i1)) ears he) (lw_V q1703 q1705 qs91 q124 q1706) hdV_X13_isHeardSo ⟨rfl, rfl⟩ ⟨Nat.le_of_ble_eq_true rfl, Nat.le_of_ble_eq_true rfl⟩ (fx_recv (g := 0) (i := 0) (ci := 0) (q := (RX13, TX13, 24)) hX hC (min_ (by decide)) rfl rfl) hl.1 rfl (Nat.le_of_ble_eq_true rfl) ⟨Nat.zero_le _, Nat.zero_le _⟩ dX13_wasHeard_45 (fun _ H locs hC => ?_)
      refine W.eq (g2 := F0 m 48 ls [.int (b2i (p_isSo (p_ticks i1 d) (nu (40 * ix s0 + i1)) ears))]) rfl ?_
      refine lv_istore_n (lv' := [(3, .int (b2i (p_isSo (p_ticks i1 d) (nu (40 * ix s0 + i1)) ears))), (4, .int (nI i1)), (0, .ref (G.ad 0 0)), (1, .int s0), (2, .int ears)]) hx hb dX13_wasHeard_48 rfl hl (by decide) rfl (fun ls hl => ?_)
      refine lv_aload_n hx hb dX13_wasHeard_49 rfl (lv_at hl 2 rfl) ?_
      refine fc_V (As := []) (rest := []) hx hb hml hown hts hX hC (m_X13_tick (hw.ticks _)) (lw_V q1498 q1500 qs69 q124 q1501) hdV_X13_tick ⟨rfl, rfl⟩ ⟨Nat.le_of_ble_eq_true rfl, Nat.le_of_ble_eq_true rfl⟩ (fx_recv (g := 0) (i := 0) (ci := 0) (q := (RX13, TX13, 24)) hX hC (min_ (by decide)) rfl rfl) hl.1 rfl (Nat.le_of_ble_eq_true rfl) ⟨Nat.zero_le _, Nat.zero_le _⟩ dX13_wasHeard_50 (fun _ H locs hC => ?_)
      refine W.eq (g2 := F0 m 53 ls []) rfl ?_
      refine lv_iinc (v := nI (i1 + 1)) (lv' := [(4, .int (nI (i1 + 1))), (3, .int (b2i (p_isSo (p_ticks i1 d) (nu (40 * ix s0 + i1)) ears))), (0, .ref (G.ad 0 0)), (1, .int s0), (2, .int ears)]) hx hb dX13_wasHeard_53 hl (k := 1) rfl (nI_1 _) (by decide) rfl (fun ls hl => ?_)
      refine lv_goto (tgt := 16) hx hb dX13_wasHeard_56 (by decide) ?_
      by_cases c_7 : p_isSo (p_ticks i1 d) (nu (40 * ix s0 + i1)) ears
      · rw [b2i_t c_7] at hl
        exact ih1 (i1 + 1) (by omega) (areSo_s hJ1 c_7) _ _ hC ls (lv_sub hl [0, 1, 2, 3, 4] rfl)
      · rw [b2i_f c_7] at hl
        refine lv_iload hx hb dX13_wasHeard_16 (lv_at hl 0 rfl) ?_
        refine lv_aload_n hx hb dX13_wasHeard_18 rfl (lv_at hl 2 rfl) ?_
        refine fg_get (C := RX13) (T := TX13) (N := 24) (ci := 0) (g := 0) (i := 0) (v := .ref (G.ad 0 11)) hx hb hown hts hX hC in_X13 rfl (min_ (by decide)) rfl 21 (by decide) q1331 (fun _ h => h) rfl dX13_wasHeard_19 ?_
        refine lv_iload_n hx hb dX13_wasHeard_22 rfl (lv_at hl 3 rfl) ?_
        refine fg_iald (g := 0) (i := 11) (t0 := 0) (v := sz (ix s0)) hx hb hX hC (min_ (by decide)) rfl rfl hs rfl dX13_wasHeard_23 ?_
        refine fj_ge (tgt := 59) hx hb dX13_wasHeard_24 (by decide) (fun c_8 => ?_) (fun c_8 => ?_)
        · refine lv_aload_n hx hb dX13_wasHeard_59 rfl (lv_at hl 2 rfl) ?_
          refine fg_get (C := RX13) (T := TX13) (N := 24) (ci := 0) (g := 0) (i := 0) (v := .ref (G.ad 0 3)) hx hb hown hts hX hC in_X13 rfl (min_ (by decide)) rfl 2 (by decide) q1312 (fun _ h => h) rfl dX13_wasHeard_60 ?_
          refine lv_aload_n hx hb dX13_wasHeard_63 rfl (lv_at hl 2 rfl) ?_
          refine fg_get (C := RX13) (T := TX13) (N := 24) (ci := 0) (g := 0) (i := 0) (v := .ref (G.ad 0 1)) hx hb hown hts hX hC in_X13 rfl (min_ (by decide)) rfl 0 (by decide) q1310 (fun _ h => h) rfl dX13_wasHeard_64 ?_
          refine fc_S (As := [.ref (G.ad 0 3), .ref (G.ad 0 1)]) (rest := []) hx hb hml hown hts hX hC (m_X13_copyRow (g1 := 0) (i1 := 3) (g2 := 0) (i2 := 1) (t0 := 0) (ctn := mct G (mpg d kp d bf sc fd tp it ws sz nu mv)) (min_ (by decide)) rfl (min_ (by decide)) rfl rfl (by decide) (mu mp1 (fun _ _ h => h))) (lw_S q1491 q1492 q124 q1493) hdS_X13_copyRow ⟨rfl, rfl⟩ ⟨Nat.le_of_ble_eq_true rfl, Nat.le_of_ble_eq_true rfl⟩ hl.1 rfl (Nat.le_of_ble_eq_true rfl) ⟨Nat.zero_le _, Nat.zero_le _⟩ dX13_wasHeard_67 (fun _ H locs hC => ?_)
          refine W.eq (g2 := F0 m 70 ls []) rfl ?_
          refine lv_iload_n hx hb dX13_wasHeard_70 rfl (lv_at hl 1 rfl) ?_
          exact fr_z hx hb hr rfl hlocks hX hC () (congrArg (fun z => some (Value.int z)) (b2i_f (fun z => c_7 (z i1 (by omega))))) rfl dX13_wasHeard_71
        · refine lv_iload_n hx hb dX13_wasHeard_27 rfl (lv_at hl 1 rfl) ?_
          refine lv_if_eq (tgt := 59) hx hb dX13_wasHeard_28 (by decide) (fun _ => ?_) (fun z_9 => absurd (by decide) z_9)
          refine lv_aload_n hx hb dX13_wasHeard_59 rfl (lv_at hl 2 rfl) ?_
          refine fg_get (C := RX13) (T := TX13) (N := 24) (ci := 0) (g := 0) (i := 0) (v := .ref (G.ad 0 3)) hx hb hown hts hX hC in_X13 rfl (min_ (by decide)) rfl 2 (by decide) q1312 (fun _ h => h) rfl dX13_wasHeard_60 ?_
          refine lv_aload_n hx hb dX13_wasHeard_63 rfl (lv_at hl 2 rfl) ?_
          refine fg_get (C := RX13) (T := TX13) (N := 24) (ci := 0) (g := 0) (i := 0) (v := .ref (G.ad 0 1)) hx hb hown hts hX hC in_X13 rfl (min_ (by decide)) rfl 0 (by decide) q1310 (fun _ h => h) rfl dX13_wasHeard_64 ?_
          refine fc_S (As := [.ref (G.ad 0 3), .ref (G.ad 0 1)]) (rest := []) hx hb hml hown hts hX hC (m_X13_copyRow (g1 := 0) (i1 := 3) (g2 := 0) (i2 := 1) (t0 := 0) (ctn := mct G (mpg d kp d bf sc fd tp it ws sz nu mv)) (min_ (by decide)) rfl (min_ (by decide)) rfl rfl (by decide) (mu mp1 (fun _ _ h => h))) (lw_S q1491 q1492 q124 q1493) hdS_X13_copyRow ⟨rfl, rfl⟩ ⟨Nat.le_of_ble_eq_true rfl, Nat.le_of_ble_eq_true rfl⟩ hl.1 rfl (Nat.le_of_ble_eq_true rfl) ⟨Nat.zero_le _, Nat.zero_le _⟩ dX13_wasHeard_67 (fun _ H locs hC => ?_)
          refine W.eq (g2 := F0 m 70 ls []) rfl ?_
          refine lv_iload_n hx hb dX13_wasHeard_70 rfl (lv_at hl 1 rfl) ?_
          exact fr_z hx hb hr rfl hlocks hX hC () (congrArg (fun z => some (Value.int z)) (b2i_f (fun z => c_7 (z i1 (by omega))))) rfl dX13_wasHeard_71
  exact L_1 _ 0 (Nat.zero_add _) (fun _ z => absurd z (Nat.not_lt_zero _)) _ _ hC ls (lv_sub hl [0, 1, 2, 3, 4] rfl)
set_option maxRecDepth 100000 in
theorem m_X13_fitting_3 {l : Launch} {G : Gm} {d kp as bf sc fd tp it ws sz nu mv : Row} (hw : WF d) (s0 ears : Int32) (hs : vp_in s0 4) (hz : WS ws sz) (he : p_in ears 0 2) : Cm l yX13_fitting (ws_ yX13_fitting cX13_fitting 9 (some .long)) ({ frames := 6, cells := 0, slots := 0, locals := 129 }) (mF G) [.ref (G.ad 0 0), .int s0, .int ears, .int 3, .int 36] (mct G (mpg d kp as bf sc fd tp it ws sz nu mv)) (fun u : Row => some (.long (lN (p_fit d nu (40 * ix s0) (ix (sz (ix s0))) ears 3 36)))) (fun u => mct G (mpg d kp u bf sc fd tp it ws sz nu mv)) := by
  refine Cm.start (by decide) (Nat.le_of_ble_eq_true rfl) ?_
  intro p e s m below meth c hf hX hC ls hl
  obtain ⟨hx, hb, hr, hml, hown, hts, hlocks⟩ := hf
  have hl : lv_has ls 9 [(0, .ref (G.ad 0 0)), (1, .int s0), (2, .int ears), (3, .int 3), (4, .int 36)] := hl
  have hown : s.vm.findClass "OwlEarsModel" = some m.cls := hown
  refine lv_aload_n hx hb dX13_fitting_0 rfl (lv_at hl 0 rfl) ?_
  refine fg_get (C := RX13) (T := TX13) (N := 24) (ci := 0) (g := 0) (i := 0) (v := .ref (G.ad 0 1)) hx hb hown hts hX hC in_X13 rfl (min_ (by decide)) rfl 0 (by decide) q1310 (fun _ h => h) rfl dX13_fitting_1 ?_
  refine lv_iload_n hx hb dX13_fitting_4 rfl (lv_at hl 3 rfl) ?_
  refine fg_iald (g := 0) (i := 1) (t0 := 0) (v := d 3) hx hb hX hC (min_ (by decide)) rfl rfl (vin_b rfl) rfl dX13_fitting_5 ?_
  refine lv_istore (lv' := [(5, .int (d 3)), (0, .ref (G.ad 0 0)), (1, .int s0), (2, .int ears), (3, .int 3), (4, .int 36)]) hx hb dX13_fitting_6 hl (by decide) rfl (fun ls hl => ?_)
  refine lv_lconst (v := 0) hx hb dX13_fitting_8 rfl ?_
  refine lv_lstore (lv' := [(6, .long 0), (5, .int (d 3)), (0, .ref (G.ad 0 0)), (1, .int s0), (2, .int ears), (3, .int 3), (4, .int 36)]) hx hb dX13_fitting_9 hl (by decide) rfl (fun ls hl => ?_)
  refine lv_iconst (v := 0) hx hb dX13_fitting_11 rfl ?_
  refine lv_istore (lv' := [(8, .int 0), (6, .long 0), (5, .int (d 3)), (0, .ref (G.ad 0 0)), (1, .int s0), (2, .int ears), (3, .int 3), (4, .int 36)]) hx hb dX13_fitting_12 hl (by decide) rfl (fun ls hl => ?_)
  have L_1 : ∀ (k1 i1 : Nat), i1 + k1 = 36 → ∀ (as1 : Row) (x1 : Int32) (H : Heap) (locs : List Loc), fC (mF G) (mct G (mpg (upd d 3 x1) kp as1 bf sc fd tp it ws sz nu mv)) s.heap H locs → ∀ ls : Array Slot, lv_has ls 9 [(0, .ref (G.ad 0 0)), (1, .int s0), (2, .int ears), (3, .int 3), (4, .int 36), (5, .int (d 3)), (6, .long (p_orl (fun v => if p_areSo (upd d 3 (nI v)) nu (40 * ix s0) (ix (sz (ix s0))) ears then 1 <<< ((nI v).toInt64 &&& 63) else 0) i1)), (8, .int (nI i1))] → WG p l e ({ frames := 6, cells := 0, slots := 0, locals := 129 }) s m (([.ref (G.ad 0 0), .int s0, .int ears, .int 3, .int 36] : List Value).toArray) below meth c H locs (mF G) (fun u : Row => some (.long (lN (p_fit d nu (40 * ix s0) (ix (sz (ix s0))) ears 3 36)))) (fun u => mct G (mpg d kp u bf sc fd tp it ws sz nu mv)) (F0 m 14 ls []) := by
    intro k1
    induction k1 with
    | zero =>
      intro i1 hi1 as1 x1 H locs hC ls hl
      obtain rfl : i1 = 36 := by omega
      refine lv_iload hx hb dX13_fitting_14 (lv_at hl 7 rfl) ?_
      refine lv_iload hx hb dX13_fitting_16 (lv_at hl 4 rfl) ?_
      refine fj_ge (tgt := 57) hx hb dX13_fitting_18 (by decide) (fun _ => ?_) (fun z_2 => absurd z_2 (nlt_ix (n := 36)))
      refine lv_aload_n hx hb dX13_fitting_57 rfl (lv_at hl 0 rfl) ?_
      refine fg_get (C := RX13) (T := TX13) (N := 24) (ci := 0) (g := 0) (i := 0) (v := .ref (G.ad 0 1)) hx hb hown hts hX hC in_X13 rfl (min_ (by decide)) rfl 0 (by decide) q1310 (fun _ h => h) rfl dX13_fitting_58 ?_
      refine lv_iload_n hx hb dX13_fitting_61 rfl (lv_at hl 3 rfl) ?_
      refine lv_iload hx hb dX13_fitting_62 (lv_at hl 5 rfl) ?_
      refine fg_iast (g := 0) (i := 1) (t0 := 0) hx hb hX hC (min_ (by decide)) rfl rfl (vin_b rfl) (mct G (mpg (upd (upd d 3 x1) 3 (d 3)) kp as1 bf sc fd tp it ws sz nu mv)) (mu mp1 (fun _ _ h => h)) dX13_fitting_64 (fun H locs hC => ?_)
      refine lv_lload hx hb dX13_fitting_65 (lv_at hl 6 rfl) ?_
      exact fr_l hx hb hr hlocks hX hC as1 (congrArg (fun z => some (Value.long z)) ((p_orl_set (fun v => p_areSo (upd d 3 (nI v)) nu (40 * ix s0) (ix (sz (ix s0))) ears) 36 (by decide)).symm)) (congrArg (fun z => mct G (mpg z kp as1 bf sc fd tp it ws sz nu mv)) (upd_back d 3 _)) dX13_fitting_67
    | succ k1 ih1 =>
      intro i1 hi1 as1 x1 H locs hC ls hl
      refine lv_iload hx hb dX13_fitting_14 (lv_at hl 7 rfl) ?_
      refine lv_iload hx hb dX13_fitting_16 (lv_at hl 4 rfl) ?_
      refine fj_ge (tgt := 57) hx hb dX13_fitting_18 (by decide) (fun z_3 => absurd (lt_ix (n := 36) (show i1 < 36 by omega)) z_3) (fun _ => ?_)
      refine lv_aload_n hx hb dX13_fitting_21 rfl (lv_at hl 0 rfl) ?_
      refine fg_get (C := RX13) (T := TX13) (N := 24) (ci := 0) (g := 0) (i := 0) (v := .ref (G.ad 0 1)) hx hb hown hts hX hC in_X13 rfl (min_ (by decide)) rfl 0 (by decide) q1310 (fun _ h => h) rfl dX13_fitting_22 ?_
      refine lv_iload_n hx hb dX13_fitting_25 rfl (lv_at hl 3 rfl) ?_
      refine lv_iload hx hb dX13_fitting_26 (lv_at hl 7 rfl) ?_
      refine fg_iast (g := 0) (i := 1) (t0 := 0) hx hb hX hC (min_ (by decide)) rfl rfl (vin_b rfl) (mct G (mpg (upd (upd d 3 x1) 3 (nI i1)) kp as1 bf sc fd tp it ws sz nu mv)) (mu mp1 (fun _ _ h => h)) dX13_fitting_28 (fun H locs hC => ?_)
      have hC := (congrArg (fun z => fC (mF G) (mct G (mpg z kp as1 bf sc fd tp it ws sz nu mv)) s.heap _ _) (upd_uu d 3 x1 (nI i1))).mp hC
      refine lv_lload hx hb dX13_fitting_29 (lv_at hl 6 rfl) ?_
      refine lv_aload_n hx hb dX13_fitting_31 rfl (lv_at hl 0 rfl) ?_
      refine lv_iload_n hx hb dX13_fitting_32 rfl (lv_at hl 1 rfl) ?_
      refine lv_iload_n hx hb dX13_fitting_33 rfl (lv_at hl 2 rfl) ?_
      refine fc_V (As := [.int s0, .int ears]) (rest := [.long (p_orl (fun v => if p_areSo (upd d 3 (nI v)) nu (40 * ix s0) (ix (sz (ix s0))) ears then 1 <<< ((nI v).toInt64 &&& 63) else 0) i1)]) hx hb hml hown hts hX hC (m_X13_wasHeard (hw.put3 (show i1 < 36 by omega)) s0 ears hs hz he) (lw_V q1699 q1701 qs90 q124 q1702) hdV_X13_wasHeard ⟨rfl, rfl⟩ ⟨Nat.le_of_ble_eq_true rfl, Nat.le_of_ble_eq_true rfl⟩ (fx_recv (g := 0) (i := 0) (ci := 0) (q := (RX13, TX13, 24)) hX hC (min_ (by decide)) rfl rfl) hl.1 rfl (Nat.le_of_ble_eq_true rfl) ⟨Nat.zero_le _, Nat.zero_le _⟩ dX13_fitting_34 (fun _ H locs hC => ?_)
      refine W.eq (g2 := F0 m 37 ls [.int (b2i (p_areSo (upd d 3 (nI i1)) nu (40 * ix s0) (ix (sz (ix s0))) ears)), .long (p_orl (fun v => if p_areSo (upd d 3 (nI v)) nu (40 * ix s0) (ix (sz (ix s0))) ears then 1 <<< ((nI v).toInt64 &&& 63) else 0) i1)]) rfl ?_
      refine fw_joinl (C := p_areSo (upd d 3 (nI i1)) nu (40 * ix s0) (ix (sz (ix s0))) ears) (a := 1 <<< ((nI i1).toInt64 &&& 63)) (b := 0) (pcj := 48) (ls := ls) (rest := [.long (p_orl (fun v => if p_areSo (upd d 3 (nI v)) nu (40 * ix s0) (ix (sz (ix s0))) ears then 1 <<< ((nI v).toInt64 &&& 63) else 0) i1)]) (fun ja jb => ?_) ?_
      · refine fb_eq (tgt := 47) hx hb dX13_fitting_37 (by decide) (fun c_5 => ?_) (fun c_5 => ?_)
        · refine lv_lconst (v := 0) hx hb dX13_fitting_47 rfl ?_
          exact jb c_5
        · refine lv_lconst (v := 1) hx hb dX13_fitting_40 rfl ?_
          refine lv_iload hx hb dX13_fitting_41 (lv_at hl 7 rfl) ?_
          refine lv_lshl (v := 1 <<< ((nI i1).toInt64 &&& 63)) hx hb dX13_fitting_43 rfl ?_
          refine lv_goto (tgt := 48) hx hb dX13_fitting_44 (by decide) ?_
          exact ja c_5
      refine lv_lor hx hb dX13_fitting_48 ?_
      refine lv_lstore (lv' := [(6, .long ((p_orl (fun v => if p_areSo (upd d 3 (nI v)) nu (40 * ix s0) (ix (sz (ix s0))) ears then 1 <<< ((nI v).toInt64 &&& 63) else 0) i1) ||| (if p_areSo (upd d 3 (nI i1)) nu (40 * ix s0) (ix (sz (ix s0))) ears then 1 <<< ((nI i1).toInt64 &&& 63) else 0))), (0, .ref (G.ad 0 0)), (1, .int s0), (2, .int ears), (3, .int 3), (4, .int 36), (5, .int (d 3)), (8, .int (nI i1))]) hx hb dX13_fitting_49 hl (by decide) rfl (fun ls hl => ?_)
      refine lv_iinc (v := nI (i1 + 1)) (lv' := [(8, .int (nI (i1 + 1))), (6, .long ((p_orl (fun v => if p_areSo (upd d 3 (nI v)) nu (40 * ix s0) (ix (sz (ix s0))) ears then 1 <<< ((nI v).toInt64 &&& 63) else 0) i1) ||| (if p_areSo (upd d 3 (nI i1)) nu (40 * ix s0) (ix (sz (ix s0))) ears then 1 <<< ((nI i1).toInt64 &&& 63) else 0))), (0, .ref (G.ad 0 0)), (1, .int s0), (2, .int ears), (3, .int 3), (4, .int 36), (5, .int (d 3))]) hx hb dX13_fitting_51 hl (k := 7) rfl (nI_1 _) (by decide) rfl (fun ls hl => ?_)
      refine lv_goto (tgt := 14) hx hb dX13_fitting_54 (by decide) ?_
      exact ih1 (i1 + 1) (by omega) _ _ _ _ hC ls (lv_sub hl [2, 3, 4, 5, 6, 7, 1, 0] rfl)
  have hC := (congrArg (fun z => fC (mF G) (mct G (mpg z kp as bf sc fd tp it ws sz nu mv)) s.heap _ _) (upd_id d 3)).mp hC
  exact L_1 36 0 (by omega) _ _ _ _ hC ls (lv_sub hl [3, 4, 5, 6, 7, 2, 1, 0] rfl)
set_option maxRecDepth 100000 in
theorem m_X13_fitting_4 {l : Launch} {G : Gm} {d kp as bf sc fd tp it ws sz nu mv : Row} (hw : WF d) (s0 ears : Int32) (hs : vp_in s0 4) (hz : WS ws sz) (he : p_in ears 0 2) : Cm l yX13_fitting (ws_ yX13_fitting cX13_fitting 9 (some .long)) ({ frames := 6, cells := 0, slots := 0, locals := 129 }) (mF G) [.ref (G.ad 0 0), .int s0, .int ears, .int 4, .int 4] (mct G (mpg d kp as bf sc fd tp it ws sz nu mv)) (fun u : Row => some (.long (lN (p_fit d nu (40 * ix s0) (ix (sz (ix s0))) ears 4 4)))) (fun u => mct G (mpg d kp u bf sc fd tp it ws sz nu mv)) := by
  refine Cm.start (by decide) (Nat.le_of_ble_eq_true rfl) ?_
  intro p e s m below meth c hf hX hC ls hl
  obtain ⟨hx, hb, hr, hml, hown, hts, hlocks⟩ := hf
  have hl : lv_has ls 9 [(0, .ref (G.ad 0 0)), (1, .int s0), (2, .int ears), (3, .int 4), (4, .int 4)] := hl
  have hown : s.vm.findClass "OwlEarsModel" = some m.cls := hown
  refine lv_aload_n hx hb dX13_fitting_0 rfl (lv_at hl 0 rfl) ?_
  refine fg_get (C := RX13) (T := TX13) (N := 24) (ci := 0) (g := 0) (i := 0) (v := .ref (G.ad 0 1)) hx hb hown hts hX hC in_X13 rfl (min_ (by decide)) rfl 0 (by decide) q1310 (fun _ h => h) rfl dX13_fitting_1 ?_
  refine lv_iload_n hx hb dX13_fitting_4 rfl (lv_at hl 3 rfl) ?_
  refine fg_iald (g := 0) (i := 1) (t0 := 0) (v := d 4) hx hb hX hC (min_ (by decide)) rfl rfl (vin_b rfl) rfl dX13_fitting_5 ?_
  refine lv_istore (lv' := [(5, .int (d 4)), (0, .ref (G.ad 0 0)), (1, .int s0), (2, .int ears), (3, .int 4), (4, .int 4)]) hx hb dX13_fitting_6 hl (by decide) rfl (fun ls hl => ?_)
  refine lv_lconst (v := 0) hx hb dX13_fitting_8 rfl ?_
  refine lv_lstore (lv' := [(6, .long 0), (5, .int (d 4)), (0, .ref (G.ad 0 0)), (1, .int s0), (2, .int ears), (3, .int 4), (4, .int 4)]) hx hb dX13_fitting_9 hl (by decide) rfl (fun ls hl => ?_)
  refine lv_iconst (v := 0) hx hb dX13_fitting_11 rfl ?_
  refine lv_istore (lv' := [(8, .int 0), (6, .long 0), (5, .int (d 4)), (0, .ref (G.ad 0 0)), (1, .int s0), (2, .int ears), (3, .int 4), (4, .int 4)]) hx hb dX13_fitting_12 hl (by decide) rfl (fun ls hl => ?_)
  have L_1 : ∀ (k1 i1 : Nat), i1 + k1 = 4 → ∀ (as1 : Row) (x1 : Int32) (H : Heap) (locs : List Loc), fC (mF G) (mct G (mpg (upd d 4 x1) kp as1 bf sc fd tp it ws sz nu mv)) s.heap H locs → ∀ ls : Array Slot, lv_has ls 9 [(0, .ref (G.ad 0 0)), (1, .int s0), (2, .int ears), (3, .int 4), (4, .int 4), (5, .int (d 4)), (6, .long (p_orl (fun v => if p_areSo (upd d 4 (nI v)) nu (40 * ix s0) (ix (sz (ix s0))) ears then 1 <<< ((nI v).toInt64 &&& 63) else 0) i1)), (8, .int (nI i1))] → WG p l e ({ frames := 6, cells := 0, slots := 0, locals := 129 }) s m (([.ref (G.ad 0 0), .int s0, .int ears, .int 4, .int 4] : List Value).toArray) below meth c H locs (mF G) (fun u : Row => some (.long (lN (p_fit d nu (40 * ix s0) (ix (sz (ix s0))) ears 4 4)))) (fun u => mct G (mpg d kp u bf sc fd tp it ws sz nu mv)) (F0 m 14 ls []) := by
    intro k1
    induction k1 with
    | zero =>
      intro i1 hi1 as1 x1 H locs hC ls hl
      obtain rfl : i1 = 4 := by omega
      refine lv_iload hx hb dX13_fitting_14 (lv_at hl 7 rfl) ?_
      refine lv_iload hx hb dX13_fitting_16 (lv_at hl 4 rfl) ?_
      refine fj_ge (tgt := 57) hx hb dX13_fitting_18 (by decide) (fun _ => ?_) (fun z_2 => absurd z_2 (nlt_ix (n := 4)))
      refine lv_aload_n hx hb dX13_fitting_57 rfl (lv_at hl 0 rfl) ?_
      refine fg_get (C := RX13) (T := TX13) (N := 24) (ci := 0) (g := 0) (i := 0) (v := .ref (G.ad 0 1)) hx hb hown hts hX hC in_X13 rfl (min_ (by decide)) rfl 0 (by decide) q1310 (fun _ h => h) rfl dX13_fitting_58 ?_
      refine lv_iload_n hx hb dX13_fitting_61 rfl (lv_at hl 3 rfl) ?_
      refine lv_iload hx hb dX13_fitting_62 (lv_at hl 5 rfl) ?_
      refine fg_iast (g := 0) (i := 1) (t0 := 0) hx hb hX hC (min_ (by decide)) rfl rfl (vin_b rfl) (mct G (mpg (upd (upd d 4 x1) 4 (d 4)) kp as1 bf sc fd tp it ws sz nu mv)) (mu mp1 (fun _ _ h => h)) dX13_fitting_64 (fun H locs hC => ?_)
      refine lv_lload hx hb dX13_fitting_65 (lv_at hl 6 rfl) ?_
      exact fr_l hx hb hr hlocks hX hC as1 (congrArg (fun z => some (Value.long z)) ((p_orl_set (fun v => p_areSo (upd d 4 (nI v)) nu (40 * ix s0) (ix (sz (ix s0))) ears) 4 (by decide)).symm)) (congrArg (fun z => mct G (mpg z kp as1 bf sc fd tp it ws sz nu mv)) (upd_back d 4 _)) dX13_fitting_67
    | succ k1 ih1 =>
      intro i1 hi1 as1 x1 H locs hC ls hl
      refine lv_iload hx hb dX13_fitting_14 (lv_at hl 7 rfl) ?_
      refine lv_iload hx hb dX13_fitting_16 (lv_at hl 4 rfl) ?_
      refine fj_ge (tgt := 57) hx hb dX13_fitting_18 (by decide) (fun z_3 => absurd (lt_ix (n := 4) (show i1 < 4 by omega)) z_3) (fun _ => ?_)
      refine lv_aload_n hx hb dX13_fitting_21 rfl (lv_at hl 0 rfl) ?_
      refine fg_get (C := RX13) (T := TX13) (N := 24) (ci := 0) (g := 0) (i := 0) (v := .ref (G.ad 0 1)) hx hb hown hts hX hC in_X13 rfl (min_ (by decide)) rfl 0 (by decide) q1310 (fun _ h => h) rfl dX13_fitting_22 ?_
      refine lv_iload_n hx hb dX13_fitting_25 rfl (lv_at hl 3 rfl) ?_
      refine lv_iload hx hb dX13_fitting_26 (lv_at hl 7 rfl) ?_
      refine fg_iast (g := 0) (i := 1) (t0 := 0) hx hb hX hC (min_ (by decide)) rfl rfl (vin_b rfl) (mct G (mpg (upd (upd d 4 x1) 4 (nI i1)) kp as1 bf sc fd tp it ws sz nu mv)) (mu mp1 (fun _ _ h => h)) dX13_fitting_28 (fun H locs hC => ?_)
      have hC := (congrArg (fun z => fC (mF G) (mct G (mpg z kp as1 bf sc fd tp it ws sz nu mv)) s.heap _ _) (upd_uu d 4 x1 (nI i1))).mp hC
      refine lv_lload hx hb dX13_fitting_29 (lv_at hl 6 rfl) ?_
      refine lv_aload_n hx hb dX13_fitting_31 rfl (lv_at hl 0 rfl) ?_
      refine lv_iload_n hx hb dX13_fitting_32 rfl (lv_at hl 1 rfl) ?_
      refine lv_iload_n hx hb dX13_fitting_33 rfl (lv_at hl 2 rfl) ?_
      refine fc_V (As := [.int s0, .int ears]) (rest := [.long (p_orl (fun v => if p_areSo (upd d 4 (nI v)) nu (40 * ix s0) (ix (sz (ix s0))) ears then 1 <<< ((nI v).toInt64 &&& 63) else 0) i1)]) hx hb hml hown hts hX hC (m_X13_wasHeard hw.put4 s0 ears hs hz he) (lw_V q1699 q1701 qs90 q124 q1702) hdV_X13_wasHeard ⟨rfl, rfl⟩ ⟨Nat.le_of_ble_eq_true rfl, Nat.le_of_ble_eq_true rfl⟩ (fx_recv (g := 0) (i := 0) (ci := 0) (q := (RX13, TX13, 24)) hX hC (min_ (by decide)) rfl rfl) hl.1 rfl (Nat.le_of_ble_eq_true rfl) ⟨Nat.zero_le _, Nat.zero_le _⟩ dX13_fitting_34 (fun _ H locs hC => ?_)
      refine W.eq (g2 := F0 m 37 ls [.int (b2i (p_areSo (upd d 4 (nI i1)) nu (40 * ix s0) (ix (sz (ix s0))) ears)), .long (p_orl (fun v => if p_areSo (upd d 4 (nI v)) nu (40 * ix s0) (ix (sz (ix s0))) ears then 1 <<< ((nI v).toInt64 &&& 63) else 0) i1)]) rfl ?_
      refine fw_joinl (C := p_areSo (upd d 4 (nI i1)) nu (40 * ix s0) (ix (sz (ix s0))) ears) (a := 1 <<< ((nI i1).toInt64 &&& 63)) (b := 0) (pcj := 48) (ls := ls) (rest := [.long (p_orl (fun v => if p_areSo (upd d 4 (nI v)) nu (40 * ix s0) (ix (sz (ix s0))) ears then 1 <<< ((nI v).toInt64 &&& 63) else 0) i1)]) (fun ja jb => ?_) ?_
      · refine fb_eq (tgt := 47) hx hb dX13_fitting_37 (by decide) (fun c_5 => ?_) (fun c_5 => ?_)
        · refine lv_lconst (v := 0) hx hb dX13_fitting_47 rfl ?_
          exact jb c_5
        · refine lv_lconst (v := 1) hx hb dX13_fitting_40 rfl ?_
          refine lv_iload hx hb dX13_fitting_41 (lv_at hl 7 rfl) ?_
          refine lv_lshl (v := 1 <<< ((nI i1).toInt64 &&& 63)) hx hb dX13_fitting_43 rfl ?_
          refine lv_goto (tgt := 48) hx hb dX13_fitting_44 (by decide) ?_
          exact ja c_5
      refine lv_lor hx hb dX13_fitting_48 ?_
      refine lv_lstore (lv' := [(6, .long ((p_orl (fun v => if p_areSo (upd d 4 (nI v)) nu (40 * ix s0) (ix (sz (ix s0))) ears then 1 <<< ((nI v).toInt64 &&& 63) else 0) i1) ||| (if p_areSo (upd d 4 (nI i1)) nu (40 * ix s0) (ix (sz (ix s0))) ears then 1 <<< ((nI i1).toInt64 &&& 63) else 0))), (0, .ref (G.ad 0 0)), (1, .int s0), (2, .int ears), (3, .int 4), (4, .int 4), (5, .int (d 4)), (8, .int (nI i1))]) hx hb dX13_fitting_49 hl (by decide) rfl (fun ls hl => ?_)
      refine lv_iinc (v := nI (i1 + 1)) (lv' := [(8, .int (nI (i1 + 1))), (6, .long ((p_orl (fun v => if p_areSo (upd d 4 (nI v)) nu (40 * ix s0) (ix (sz (ix s0))) ears then 1 <<< ((nI v).toInt64 &&& 63) else 0) i1) ||| (if p_areSo (upd d 4 (nI i1)) nu (40 * ix s0) (ix (sz (ix s0))) ears then 1 <<< ((nI i1).toInt64 &&& 63) else 0))), (0, .ref (G.ad 0 0)), (1, .int s0), (2, .int ears), (3, .int 4), (4, .int 4), (5, .int (d 4))]) hx hb dX13_fitting_51 hl (k := 7) rfl (nI_1 _) (by decide) rfl (fun ls hl => ?_)
      refine lv_goto (tgt := 14) hx hb dX13_fitting_54 (by decide) ?_
      exact ih1 (i1 + 1) (by omega) _ _ _ _ hC ls (lv_sub hl [2, 3, 4, 5, 6, 7, 1, 0] rfl)
  have hC := (congrArg (fun z => fC (mF G) (mct G (mpg z kp as bf sc fd tp it ws sz nu mv)) s.heap _ _) (upd_id d 4)).mp hC
  exact L_1 4 0 (by omega) _ _ _ _ hC ls (lv_sub hl [3, 4, 5, 6, 7, 2, 1, 0] rfl)
set_option maxRecDepth 100000 in
theorem m_X13_fits {l : Launch} {G : Gm} {d kp as bf sc fd tp it ws sz nu mv : Row} (hw : WF d) (s0 ears : Int32) (hz : WS ws sz) : Cm l yX13_fits (ws_ yX13_fits cX13_fits 3 (some .long)) ({ frames := 7, cells := 0, slots := 0, locals := 157 }) (mF G) [.ref (G.ad 0 0), .int s0, .int ears] (mct G (mpg d kp as bf sc fd tp it ws sz nu mv)) (fun u : Row => some (.long ((s_fits d fd ws sz nu s0 ears).1))) (fun u => mct G (mpg d kp u bf sc ((s_fits d fd ws sz nu s0 ears).2) tp it ws sz nu mv)) := by
  refine Cm.start (by decide) (Nat.le_of_ble_eq_true rfl) ?_
  intro p e s m below meth c hf hX hC ls hl
  obtain ⟨hx, hb, hr, hml, hown, hts, hlocks⟩ := hf
  have hl : lv_has ls 3 [(0, .ref (G.ad 0 0)), (1, .int s0), (2, .int ears)] := hl
  have hown : s.vm.findClass "OwlEarsModel" = some m.cls := hown
  refine lv_aload_n hx hb dX13_fits_0 rfl (lv_at hl 0 rfl) ?_
  refine lv_iload_n hx hb dX13_fits_1 rfl (lv_at hl 1 rfl) ?_
  refine lv_iload_n hx hb dX13_fits_2 rfl (lv_at hl 2 rfl) ?_
  refine fc_V (As := [.int s0, .int ears]) (rest := []) hx hb hml hown hts hX hC (m_X13_lacksFor s0 ears) (lw_V q1683 q1685 qs87 q124 q1686) hdV_X13_lacksFor ⟨rfl, rfl⟩ ⟨Nat.le_of_ble_eq_true rfl, Nat.le_of_ble_eq_true rfl⟩ (fx_recv (g := 0) (i := 0) (ci := 0) (q := (RX13, TX13, 24)) hX hC (min_ (by decide)) rfl rfl) hl.1 rfl (Nat.le_of_ble_eq_true rfl) ⟨Nat.zero_le _, Nat.zero_le _⟩ dX13_fits_3 (fun _ H locs hC => ?_)
  refine W.eq (g2 := F0 m 6 ls [.int (p_lackF ws s0 ears)]) rfl ?_
  refine lv_if_eq (tgt := 23) hx hb dX13_fits_6 (by decide) (fun c_2 => ?_) (fun c_2 => ?_)
  · refine lv_aload_n hx hb dX13_fits_23 rfl (lv_at hl 0 rfl) ?_
    refine lv_iload_n hx hb dX13_fits_24 rfl (lv_at hl 1 rfl) ?_
    refine lv_iload_n hx hb dX13_fits_25 rfl (lv_at hl 2 rfl) ?_
    refine lv_iconst (v := 3) hx hb dX13_fits_26 rfl ?_
    refine lv_bipush (v := 36) hx hb dX13_fits_27 rfl ?_
    refine fc_V (As := [.int s0, .int ears, .int 3, .int 36]) (rest := []) hx hb hml hown hts hX hC (m_X13_fitting_3 hw s0 ears (vin_of (lack_0 (lackF_0 c_2).1).1 4 (by decide)) hz (lackF_0 c_2).2) (lw_V q1695 q1697 qs89 q124 q1698) hdV_X13_fitting ⟨rfl, rfl⟩ ⟨Nat.le_of_ble_eq_true rfl, Nat.le_of_ble_eq_true rfl⟩ (fx_recv (g := 0) (i := 0) (ci := 0) (q := (RX13, TX13, 24)) hX hC (min_ (by decide)) rfl rfl) hl.1 rfl (Nat.le_of_ble_eq_true rfl) ⟨Nat.zero_le _, Nat.zero_le _⟩ dX13_fits_29 (fun u_3 H locs hC => ?_)
    refine W.eq (g2 := F0 m 32 ls [.long (lN (p_fit d nu (40 * ix s0) (ix (sz (ix s0))) ears 3 36))]) rfl ?_
    have hs : s_fits d fd ws sz nu s0 ears = ((lN (p_fit d nu (40 * ix s0) (ix (sz (ix s0))) ears 3 36), fd) : Int64 × Row) := by rw [s_fits, if_pos c_2]
    exact fr_l hx hb hr hlocks hX hC u_3 (congrArg (fun z => some (Value.long z)) (t2_1 hs)) (congrArg (fun z => mct G (mpg d kp u_3 bf sc z tp it ws sz nu mv)) (t2_2 hs)).symm dX13_fits_32
  · refine lv_aload_n hx hb dX13_fits_9 rfl (lv_at hl 0 rfl) ?_
    refine lv_aload_n hx hb dX13_fits_10 rfl (lv_at hl 0 rfl) ?_
    refine lv_iload_n hx hb dX13_fits_11 rfl (lv_at hl 1 rfl) ?_
    refine lv_iload_n hx hb dX13_fits_12 rfl (lv_at hl 2 rfl) ?_
    refine fc_V (As := [.int s0, .int ears]) (rest := [.ref (G.ad 0 0)]) hx hb hml hown hts hX hC (m_X13_lacksFor s0 ears) (lw_V q1683 q1685 qs87 q124 q1686) hdV_X13_lacksFor ⟨rfl, rfl⟩ ⟨Nat.le_of_ble_eq_true rfl, Nat.le_of_ble_eq_true rfl⟩ (fx_recv (g := 0) (i := 0) (ci := 0) (q := (RX13, TX13, 24)) hX hC (min_ (by decide)) rfl rfl) hl.1 rfl (Nat.le_of_ble_eq_true rfl) ⟨Nat.zero_le _, Nat.zero_le _⟩ dX13_fits_13 (fun _ H locs hC => ?_)
    refine W.eq (g2 := F0 m 16 ls [.int (p_lackF ws s0 ears), .ref (G.ad 0 0)]) rfl ?_
    refine fc_V (As := [.int (p_lackF ws s0 ears)]) (rest := []) hx hb hml hown hts hX hC (m_X13_findingV (p_lackF ws s0 ears) (lackF_n c_2)) (lw_V q1404 q1406 qs56 q124 q1407) hdV_X13_finding ⟨rfl, rfl⟩ ⟨Nat.le_of_ble_eq_true rfl, Nat.le_of_ble_eq_true rfl⟩ (fx_recv (g := 0) (i := 0) (ci := 0) (q := (RX13, TX13, 24)) hX hC (min_ (by decide)) rfl rfl) hl.1 rfl (Nat.le_of_ble_eq_true rfl) ⟨Nat.zero_le _, Nat.zero_le _⟩ dX13_fits_16 (fun _ H locs hC => ?_)
    refine W.eq (g2 := F0 m 19 ls [.int (p_lackF ws s0 ears)]) rfl ?_
    refine lv_i2l (v := (p_lackF ws s0 ears).toInt64) hx hb dX13_fits_19 rfl ?_
    refine lv_goto (tgt := 32) hx hb dX13_fits_20 (by decide) ?_
    have hs : s_fits d fd ws sz nu s0 ears = (((p_lackF ws s0 ears).toInt64, p_fnd fd (p_lackF ws s0 ears)) : Int64 × Row) := by rw [s_fits, if_neg c_2]
    exact fr_l hx hb hr hlocks hX hC as (congrArg (fun z => some (Value.long z)) (t2_1 hs)) (congrArg (fun z => mct G (mpg d kp as bf sc z tp it ws sz nu mv)) (t2_2 hs)).symm dX13_fits_32
set_option maxRecDepth 100000 in
theorem m_X13_headings {l : Launch} {G : Gm} {d kp as bf sc fd tp it ws sz nu mv : Row} (hw : WF d) (s0 ears : Int32) (hz : WS ws sz) : Cm l yX13_headings (ws_ yX13_headings cX13_headings 3 (some .int)) ({ frames := 7, cells := 0, slots := 0, locals := 157 }) (mF G) [.ref (G.ad 0 0), .int s0, .int ears] (mct G (mpg d kp as bf sc fd tp it ws sz nu mv)) (fun u : Row => some (.int ((s_headings d fd ws sz nu s0 ears).1))) (fun u => mct G (mpg d kp u bf sc ((s_headings d fd ws sz nu s0 ears).2) tp it ws sz nu mv)) := by
  refine Cm.start (by decide) (Nat.le_of_ble_eq_true rfl) ?_
  intro p e s m below meth c hf hX hC ls hl
  obtain ⟨hx, hb, hr, hml, hown, hts, hlocks⟩ := hf
  have hl : lv_has ls 3 [(0, .ref (G.ad 0 0)), (1, .int s0), (2, .int ears)] := hl
  have hown : s.vm.findClass "OwlEarsModel" = some m.cls := hown
  refine lv_aload_n hx hb dX13_headings_0 rfl (lv_at hl 0 rfl) ?_
  refine lv_iload_n hx hb dX13_headings_1 rfl (lv_at hl 1 rfl) ?_
  refine lv_iload_n hx hb dX13_headings_2 rfl (lv_at hl 2 rfl) ?_
  refine fc_V (As := [.int s0, .int ears]) (rest := []) hx hb hml hown hts hX hC (m_X13_lacksFor s0 ears) (lw_V q1683 q1685 qs87 q124 q1686) hdV_X13_lacksFor ⟨rfl, rfl⟩ ⟨Nat.le_of_ble_eq_true rfl, Nat.le_of_ble_eq_true rfl⟩ (fx_recv (g := 0) (i := 0) (ci := 0) (q := (RX13, TX13, 24)) hX hC (min_ (by decide)) rfl rfl) hl.1 rfl (Nat.le_of_ble_eq_true rfl) ⟨Nat.zero_le _, Nat.zero_le _⟩ dX13_headings_3 (fun _ H locs hC => ?_)
  refine W.eq (g2 := F0 m 6 ls [.int (p_lackF ws s0 ears)]) rfl ?_
  refine lv_if_eq (tgt := 22) hx hb dX13_headings_6 (by decide) (fun c_2 => ?_) (fun c_2 => ?_)
  · refine lv_aload_n hx hb dX13_headings_22 rfl (lv_at hl 0 rfl) ?_
    refine lv_iload_n hx hb dX13_headings_23 rfl (lv_at hl 1 rfl) ?_
    refine lv_iload_n hx hb dX13_headings_24 rfl (lv_at hl 2 rfl) ?_
    refine lv_iconst (v := 4) hx hb dX13_headings_25 rfl ?_
    refine lv_iconst (v := 4) hx hb dX13_headings_26 rfl ?_
    refine fc_V (As := [.int s0, .int ears, .int 4, .int 4]) (rest := []) hx hb hml hown hts hX hC (m_X13_fitting_4 hw s0 ears (vin_of (lack_0 (lackF_0 c_2).1).1 4 (by decide)) hz (lackF_0 c_2).2) (lw_V q1695 q1697 qs89 q124 q1698) hdV_X13_fitting ⟨rfl, rfl⟩ ⟨Nat.le_of_ble_eq_true rfl, Nat.le_of_ble_eq_true rfl⟩ (fx_recv (g := 0) (i := 0) (ci := 0) (q := (RX13, TX13, 24)) hX hC (min_ (by decide)) rfl rfl) hl.1 rfl (Nat.le_of_ble_eq_true rfl) ⟨Nat.zero_le _, Nat.zero_le _⟩ dX13_headings_27 (fun u_3 H locs hC => ?_)
    refine W.eq (g2 := F0 m 30 ls [.long (lN (p_fit d nu (40 * ix s0) (ix (sz (ix s0))) ears 4 4))]) rfl ?_
    refine lv_l2i (v := (lN (p_fit d nu (40 * ix s0) (ix (sz (ix s0))) ears 4 4)).toInt32) hx hb dX13_headings_30 rfl ?_
    rw [lN_i (p_fit d nu (40 * ix s0) (ix (sz (ix s0))) ears 4 4)]
    refine fc_S (As := [.int (nI (p_fit d nu (40 * ix s0) (ix (sz (ix s0))) ears 4 4))]) (rest := []) hx hb hml hown hts hX hC (m_X13_bits (p_fit d nu (40 * ix s0) (ix (sz (ix s0))) ears 4 4) (show p_set _ 4 < 1024 from Nat.lt_of_lt_of_le (p_set_lt _ 4) (by decide))) (lw_S q1642 q1643 q124 q1644) hdS_X13_bits ⟨rfl, rfl⟩ ⟨Nat.le_of_ble_eq_true rfl, Nat.le_of_ble_eq_true rfl⟩ hl.1 rfl (Nat.le_of_ble_eq_true rfl) ⟨Nat.zero_le _, Nat.zero_le _⟩ dX13_headings_31 (fun _ H locs hC => ?_)
    refine W.eq (g2 := F0 m 34 ls [.int (nI (p_pop (p_fit d nu (40 * ix s0) (ix (sz (ix s0))) ears 4 4)))]) rfl ?_
    have hs : s_headings d fd ws sz nu s0 ears = ((nI (p_pop (p_fit d nu (40 * ix s0) (ix (sz (ix s0))) ears 4 4)), fd) : Int32 × Row) := by rw [s_headings, if_pos c_2]
    exact fr_i hx hb hr hlocks hX hC u_3 (congrArg (fun z => some (Value.int z)) (t2_1 hs)) (congrArg (fun z => mct G (mpg d kp u_3 bf sc z tp it ws sz nu mv)) (t2_2 hs)).symm dX13_headings_34
  · refine lv_aload_n hx hb dX13_headings_9 rfl (lv_at hl 0 rfl) ?_
    refine lv_aload_n hx hb dX13_headings_10 rfl (lv_at hl 0 rfl) ?_
    refine lv_iload_n hx hb dX13_headings_11 rfl (lv_at hl 1 rfl) ?_
    refine lv_iload_n hx hb dX13_headings_12 rfl (lv_at hl 2 rfl) ?_
    refine fc_V (As := [.int s0, .int ears]) (rest := [.ref (G.ad 0 0)]) hx hb hml hown hts hX hC (m_X13_lacksFor s0 ears) (lw_V q1683 q1685 qs87 q124 q1686) hdV_X13_lacksFor ⟨rfl, rfl⟩ ⟨Nat.le_of_ble_eq_true rfl, Nat.le_of_ble_eq_true rfl⟩ (fx_recv (g := 0) (i := 0) (ci := 0) (q := (RX13, TX13, 24)) hX hC (min_ (by decide)) rfl rfl) hl.1 rfl (Nat.le_of_ble_eq_true rfl) ⟨Nat.zero_le _, Nat.zero_le _⟩ dX13_headings_13 (fun _ H locs hC => ?_)
    refine W.eq (g2 := F0 m 16 ls [.int (p_lackF ws s0 ears), .ref (G.ad 0 0)]) rfl ?_
    refine fc_V (As := [.int (p_lackF ws s0 ears)]) (rest := []) hx hb hml hown hts hX hC (m_X13_findingV (p_lackF ws s0 ears) (lackF_n c_2)) (lw_V q1404 q1406 qs56 q124 q1407) hdV_X13_finding ⟨rfl, rfl⟩ ⟨Nat.le_of_ble_eq_true rfl, Nat.le_of_ble_eq_true rfl⟩ (fx_recv (g := 0) (i := 0) (ci := 0) (q := (RX13, TX13, 24)) hX hC (min_ (by decide)) rfl rfl) hl.1 rfl (Nat.le_of_ble_eq_true rfl) ⟨Nat.zero_le _, Nat.zero_le _⟩ dX13_headings_16 (fun _ H locs hC => ?_)
    refine W.eq (g2 := F0 m 19 ls [.int (p_lackF ws s0 ears)]) rfl ?_
    refine lv_goto (tgt := 34) hx hb dX13_headings_19 (by decide) ?_
    have hs : s_headings d fd ws sz nu s0 ears = ((p_lackF ws s0 ears, p_fnd fd (p_lackF ws s0 ears)) : Int32 × Row) := by rw [s_headings, if_neg c_2]
    exact fr_i hx hb hr hlocks hX hC as (congrArg (fun z => some (Value.int z)) (t2_1 hs)) (congrArg (fun z => mct G (mpg d kp as bf sc z tp it ws sz nu mv)) (t2_2 hs)).symm dX13_headings_34
