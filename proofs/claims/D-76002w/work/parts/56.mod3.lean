theorem hdV_X13_heardIn : yX13_heardIn.cls = RX13 ∧ yX13_heardIn.cls ≠ "java/lang/invoke/MethodHandle" ∧ yX13_heardIn.cls ≠ "java/lang/invoke/VarHandle" ∧ (parseMethodDescriptor yX13_heardIn.desc).map (fun d => d.parameters.length) = some 1 := by decide +kernel
theorem hdV_X13_orNone : yX13_orNone.cls = RX13 ∧ yX13_orNone.cls ≠ "java/lang/invoke/MethodHandle" ∧ yX13_orNone.cls ≠ "java/lang/invoke/VarHandle" ∧ (parseMethodDescriptor yX13_orNone.desc).map (fun d => d.parameters.length) = some 1 := by decide +kernel
theorem hdV_X13_chancesIn : yX13_chancesIn.cls = RX13 ∧ yX13_chancesIn.cls ≠ "java/lang/invoke/MethodHandle" ∧ yX13_chancesIn.cls ≠ "java/lang/invoke/VarHandle" ∧ (parseMethodDescriptor yX13_chancesIn.desc).map (fun d => d.parameters.length) = some 2 := by decide +kernel
def p_ran (w : Row) (n : Nat) : Int32 := p_sum (fun i => if p_run (p_ticks i w) then 1 else 0) n
theorem nI_ne1 {n : Nat} (h : n < 2147483648) : ¬ nI n = -1 := fun e => by
  have h1 : (nI n).toInt = (n : Int) := nI_toInt h
  rw [e] at h1
  have h2 : (-1 : Int32).toInt = -1 := rfl
  omega
set_option maxRecDepth 100000 in
theorem m_X13_heardIn {l : Launch} {G : Gm} {d kp as bf sc fd tp it ws sz nu mv : Row} (hw : WF d) (n : Int32) : Cm l yX13_heardIn (ws_ yX13_heardIn cX13_heardIn 4 (some .int)) ({ frames := 4, cells := 0, slots := 0, locals := 81 }) (mF G) [.ref (G.ad 0 0), .int n] (mct G (mpg d kp as bf sc fd tp it ws sz nu mv)) (fun _ : Unit => some (.int (p_heard d (ix n)))) (fun _ => mct G (mpg d kp d bf (upd sc 1 (p_ran d (ix n))) fd tp it ws sz nu mv)) := by
  refine Cm.start (by decide) (Nat.le_of_ble_eq_true rfl) ?_
  intro p e s m below meth c hf hX hC ls hl
  obtain ⟨hx, hb, hr, hml, hown, hts, hlocks⟩ := hf
  have hl : lv_has ls 4 [(0, .ref (G.ad 0 0)), (1, .int n)] := hl
  have hown : s.vm.findClass "OwlEarsModel" = some m.cls := hown
  refine lv_aload_n hx hb dX13_heardIn_0 rfl (lv_at hl 0 rfl) ?_
  refine fg_get (C := RX13) (T := TX13) (N := 24) (ci := 0) (g := 0) (i := 0) (v := .ref (G.ad 0 1)) hx hb hown hts hX hC in_X13 rfl (min_ (by decide)) rfl 0 (by decide) q1310 (fun _ h => h) rfl dX13_heardIn_1 ?_
  refine lv_aload_n hx hb dX13_heardIn_4 rfl (lv_at hl 0 rfl) ?_
  refine fg_get (C := RX13) (T := TX13) (N := 24) (ci := 0) (g := 0) (i := 0) (v := .ref (G.ad 0 3)) hx hb hown hts hX hC in_X13 rfl (min_ (by decide)) rfl 2 (by decide) q1312 (fun _ h => h) rfl dX13_heardIn_5 ?_
  refine fc_S (As := [.ref (G.ad 0 1), .ref (G.ad 0 3)]) (rest := []) hx hb hml hown hts hX hC (m_X13_copyRow (g1 := 0) (i1 := 1) (g2 := 0) (i2 := 3) (t0 := 0) (ctn := mct G (mpg d kp d bf sc fd tp it ws sz nu mv)) (min_ (by decide)) rfl (min_ (by decide)) rfl rfl (by decide) (mu mp3 (fun _ _ h => h))) (lw_S q1491 q1492 q124 q1493) hdS_X13_copyRow ⟨rfl, rfl⟩ ⟨Nat.le_of_ble_eq_true rfl, Nat.le_of_ble_eq_true rfl⟩ hl.1 rfl (Nat.le_of_ble_eq_true rfl) ⟨Nat.zero_le _, Nat.zero_le _⟩ dX13_heardIn_8 (fun _ H locs hC => ?_)
  refine W.eq (g2 := F0 m 11 ls []) rfl ?_
  refine lv_iconst (v := 0) hx hb dX13_heardIn_11 rfl ?_
  refine lv_istore_n (lv' := [(2, .int 0), (0, .ref (G.ad 0 0)), (1, .int n)]) hx hb dX13_heardIn_12 rfl hl (by decide) rfl (fun ls hl => ?_)
  refine lv_aload_n hx hb dX13_heardIn_13 rfl (lv_at hl 1 rfl) ?_
  refine lv_iconst (v := 0) hx hb dX13_heardIn_14 rfl ?_
  refine fg_put (C := RX13) (T := TX13) (N := 24) (ci := 0) (g := 0) (i := 0) hx hb hown hts hX hC in_X13 tyX13 tyX13_ok nmX13 rfl (min_ (by decide)) rfl 6 (by decide) q1316 (fun _ h => h) rfl rfl rfl (Nat.le_of_ble_eq_true rfl) (mct G (mpg d kp d bf (upd sc 1 0) fd tp it ws sz nu mv)) (mu mp0 (fun _ _ h => h)) dX13_heardIn_15 (fun H locs hC => ?_)
  refine lv_iconst (v := 0) hx hb dX13_heardIn_18 rfl ?_
  refine lv_istore_n (lv' := [(3, .int 0), (2, .int 0), (0, .ref (G.ad 0 0)), (1, .int n)]) hx hb dX13_heardIn_19 rfl hl (by decide) rfl (fun ls hl => ?_)
  have L_1 : ∀ (k1 i1 : Nat), i1 + k1 = ix n → ∀ (H : Heap) (locs : List Loc), fC (mF G) (mct G (mpg (p_ticks i1 d) kp d bf (upd sc 1 (p_ran d i1)) fd tp it ws sz nu mv)) s.heap H locs → ∀ ls : Array Slot, lv_has ls 4 [(0, .ref (G.ad 0 0)), (1, .int n), (2, .int (p_heard d i1)), (3, .int (nI i1))] → WG p l e ({ frames := 4, cells := 0, slots := 0, locals := 81 }) s m (([.ref (G.ad 0 0), .int n] : List Value).toArray) below meth c H locs (mF G) (fun _ : Unit => some (.int (p_heard d (ix n)))) (fun _ => mct G (mpg d kp d bf (upd sc 1 (p_ran d (ix n))) fd tp it ws sz nu mv)) (F0 m 20 ls []) := by
    intro k1
    induction k1 with
    | zero =>
      intro i1 hi1 H locs hC ls hl
      obtain rfl : i1 = ix n := by omega
      refine lv_iload_n hx hb dX13_heardIn_20 rfl (lv_at hl 3 rfl) ?_
      refine lv_iload_n hx hb dX13_heardIn_21 rfl (lv_at hl 1 rfl) ?_
      refine fj_ge (tgt := 71) hx hb dX13_heardIn_22 (by decide) (fun _ => ?_) (fun z_2 => absurd z_2 (nlt_ix (n := n)))
      refine lv_aload_n hx hb dX13_heardIn_71 rfl (lv_at hl 0 rfl) ?_
      refine lv_iload_n hx hb dX13_heardIn_72 rfl (lv_at hl 2 rfl) ?_
      refine fc_V (As := [.int (p_heard d (ix n))]) (rest := []) hx hb hml hown hts hX hC (m_X13_putBack (p_heard d (ix n))) (lw_V q1578 q1580 qs79 q124 q1581) hdV_X13_putBack ⟨rfl, rfl⟩ ⟨Nat.le_of_ble_eq_true rfl, Nat.le_of_ble_eq_true rfl⟩ (fx_recv (g := 0) (i := 0) (ci := 0) (q := (RX13, TX13, 24)) hX hC (min_ (by decide)) rfl rfl) hl.1 rfl (Nat.le_of_ble_eq_true rfl) ⟨Nat.zero_le _, Nat.zero_le _⟩ dX13_heardIn_73 (fun _ H locs hC => ?_)
      refine W.eq (g2 := F0 m 76 ls [.int (p_heard d (ix n))]) rfl ?_
      exact fr_i hx hb hr hlocks hX hC () rfl rfl dX13_heardIn_76
    | succ k1 ih1 =>
      intro i1 hi1 H locs hC ls hl
      have hz1 : i1 < 2147483648 := by have := ix_lt n; omega
      refine lv_iload_n hx hb dX13_heardIn_20 rfl (lv_at hl 3 rfl) ?_
      refine lv_iload_n hx hb dX13_heardIn_21 rfl (lv_at hl 1 rfl) ?_
      refine fj_ge (tgt := 71) hx hb dX13_heardIn_22 (by decide) (fun z_4 => absurd (lt_ix (n := n) (show i1 < ix n by omega)) z_4) (fun _ => ?_)
      refine lv_iload_n hx hb dX13_heardIn_25 rfl (lv_at hl 2 rfl) ?_
      refine lv_aload_n hx hb dX13_heardIn_26 rfl (lv_at hl 0 rfl) ?_
      refine fc_V (As := []) (rest := [.int (p_heard d i1)]) hx hb hml hown hts hX hC (m_X13_hears (hw.ticks _)) (lw_V q1535 q1537 qs72 q124 q1538) hdV_X13_hears ⟨rfl, rfl⟩ ⟨Nat.le_of_ble_eq_true rfl, Nat.le_of_ble_eq_true rfl⟩ (fx_recv (g := 0) (i := 0) (ci := 0) (q := (RX13, TX13, 24)) hX hC (min_ (by decide)) rfl rfl) hl.1 rfl (Nat.le_of_ble_eq_true rfl) ⟨Nat.zero_le _, Nat.zero_le _⟩ dX13_heardIn_27 (fun _ H locs hC => ?_)
      refine W.eq (g2 := F0 m 30 ls [.int (b2i (p_hears (p_ticks i1 d))), .int (p_heard d i1)]) rfl ?_
      refine fw_joinb (C := p_hears (p_ticks i1 d)) (pcj := 38) (ls := ls) (rest := [.int (p_heard d i1)]) (fun ja jb => ?_) ?_
      · refine fb_eq (tgt := 37) hx hb dX13_heardIn_30 (by decide) (fun c_6 => ?_) (fun c_6 => ?_)
        · refine lv_iconst (v := 0) hx hb dX13_heardIn_37 rfl ?_
          exact jb c_6
        · refine lv_iconst (v := 1) hx hb dX13_heardIn_33 rfl ?_
          refine lv_goto (tgt := 38) hx hb dX13_heardIn_34 (by decide) ?_
          exact ja c_6
      refine lv_iadd hx hb dX13_heardIn_38 ?_
      refine lv_istore_n (lv' := [(2, .int ((p_heard d i1) + (b2i (p_hears (p_ticks i1 d))))), (0, .ref (G.ad 0 0)), (1, .int n), (3, .int (nI i1))]) hx hb dX13_heardIn_39 rfl hl (by decide) rfl (fun ls hl => ?_)
      refine lv_aload_n hx hb dX13_heardIn_40 rfl (lv_at hl 1 rfl) ?_
      refine lv_dup hx hb dX13_heardIn_41 rfl ?_
      refine fg_get (C := RX13) (T := TX13) (N := 24) (ci := 0) (g := 0) (i := 0) (v := .int (p_ran d i1)) hx hb hown hts hX hC in_X13 rfl (min_ (by decide)) rfl 6 (by decide) q1316 (fun _ h => h) rfl dX13_heardIn_42 ?_
      refine lv_aload_n hx hb dX13_heardIn_45 rfl (lv_at hl 1 rfl) ?_
      refine fc_V (As := []) (rest := [.int (p_ran d i1), .ref (G.ad 0 0)]) hx hb hml hown hts hX hC (m_X13_isRunning) (lw_V q1420 q1422 qs59 q124 q1423) hdV_X13_isRunning ⟨rfl, rfl⟩ ⟨Nat.le_of_ble_eq_true rfl, Nat.le_of_ble_eq_true rfl⟩ (fx_recv (g := 0) (i := 0) (ci := 0) (q := (RX13, TX13, 24)) hX hC (min_ (by decide)) rfl rfl) hl.1 rfl (Nat.le_of_ble_eq_true rfl) ⟨Nat.zero_le _, Nat.zero_le _⟩ dX13_heardIn_46 (fun _ H locs hC => ?_)
      refine W.eq (g2 := F0 m 49 ls [.int (b2i (p_run (p_ticks i1 d))), .int (p_ran d i1), .ref (G.ad 0 0)]) rfl ?_
      refine fw_joinb (C := p_run (p_ticks i1 d)) (pcj := 57) (ls := ls) (rest := [.int (p_ran d i1), .ref (G.ad 0 0)]) (fun ja jb => ?_) ?_
      · refine fb_eq (tgt := 56) hx hb dX13_heardIn_49 (by decide) (fun c_8 => ?_) (fun c_8 => ?_)
        · refine lv_iconst (v := 0) hx hb dX13_heardIn_56 rfl ?_
          exact jb c_8
        · refine lv_iconst (v := 1) hx hb dX13_heardIn_52 rfl ?_
          refine lv_goto (tgt := 57) hx hb dX13_heardIn_53 (by decide) ?_
          exact ja c_8
      refine lv_iadd hx hb dX13_heardIn_57 ?_
      refine fg_put (C := RX13) (T := TX13) (N := 24) (ci := 0) (g := 0) (i := 0) hx hb hown hts hX hC in_X13 tyX13 tyX13_ok nmX13 rfl (min_ (by decide)) rfl 6 (by decide) q1316 (fun _ h => h) rfl rfl rfl (Nat.le_of_ble_eq_true rfl) (mct G (mpg (p_ticks i1 d) kp d bf (upd sc 1 ((p_ran d i1) + (b2i (p_run (p_ticks i1 d))))) fd tp it ws sz nu mv)) (mu mp0 (fun _ _ h => h)) dX13_heardIn_58 (fun H locs hC => ?_)
      refine lv_aload_n hx hb dX13_heardIn_61 rfl (lv_at hl 1 rfl) ?_
      refine fc_V (As := []) (rest := []) hx hb hml hown hts hX hC (m_X13_tick (hw.ticks _)) (lw_V q1498 q1500 qs69 q124 q1501) hdV_X13_tick ⟨rfl, rfl⟩ ⟨Nat.le_of_ble_eq_true rfl, Nat.le_of_ble_eq_true rfl⟩ (fx_recv (g := 0) (i := 0) (ci := 0) (q := (RX13, TX13, 24)) hX hC (min_ (by decide)) rfl rfl) hl.1 rfl (Nat.le_of_ble_eq_true rfl) ⟨Nat.zero_le _, Nat.zero_le _⟩ dX13_heardIn_62 (fun _ H locs hC => ?_)
      refine W.eq (g2 := F0 m 65 ls []) rfl ?_
      refine lv_iinc (v := nI (i1 + 1)) (lv' := [(3, .int (nI (i1 + 1))), (2, .int ((p_heard d i1) + (b2i (p_hears (p_ticks i1 d))))), (0, .ref (G.ad 0 0)), (1, .int n)]) hx hb dX13_heardIn_65 hl (k := 3) rfl (nI_1 _) (by decide) rfl (fun ls hl => ?_)
      refine lv_goto (tgt := 20) hx hb dX13_heardIn_68 (by decide) ?_
      exact ih1 (i1 + 1) (by omega) _ _ hC ls (lv_sub hl [2, 3, 1, 0] rfl)
  exact L_1 (ix n) 0 (by omega) _ _ hC ls (lv_sub hl [2, 3, 1, 0] rfl)
set_option maxRecDepth 100000 in
theorem m_X13_heard {l : Launch} {G : Gm} {d kp as bf sc fd tp it ws sz nu mv : Row} (hw : WF d) (n : Int32) : Cm l yX13_heard (ws_ yX13_heard cX13_heard 2 (some .int)) ({ frames := 5, cells := 0, slots := 0, locals := 104 }) (mF G) [.ref (G.ad 0 0), .int n] (mct G (mpg d kp as bf sc fd tp it ws sz nu mv)) (fun u : Row × Int32 => some (.int ((s_heard d fd n).1))) (fun u => mct G (mpg d kp u.1 bf (upd sc 1 u.2) ((s_heard d fd n).2) tp it ws sz nu mv)) := by
  refine Cm.start (by decide) (Nat.le_of_ble_eq_true rfl) ?_
  intro p e s m below meth c hf hX hC ls hl
  obtain ⟨hx, hb, hr, hml, hown, hts, hlocks⟩ := hf
  have hl : lv_has ls 2 [(0, .ref (G.ad 0 0)), (1, .int n)] := hl
  have hown : s.vm.findClass "OwlEarsModel" = some m.cls := hown
  refine lv_iload_n hx hb dX13_heard_0 rfl (lv_at hl 1 rfl) ?_
  refine fc_S (As := [.int n]) (rest := []) hx hb hml hown hts hX hC (m_X13_isAheadBy n) (lw_S q1575 q1576 q124 q1577) hdS_X13_isAheadBy ⟨rfl, rfl⟩ ⟨Nat.le_of_ble_eq_true rfl, Nat.le_of_ble_eq_true rfl⟩ hl.1 rfl (Nat.le_of_ble_eq_true rfl) ⟨Nat.zero_le _, Nat.zero_le _⟩ dX13_heard_1 (fun _ H locs hC => ?_)
  refine W.eq (g2 := F0 m 4 ls [.int (b2i (p_in n 0 200))]) rfl ?_
  refine fb_eq (tgt := 15) hx hb dX13_heard_4 (by decide) (fun c_2 => ?_) (fun c_2 => ?_)
  · refine lv_aload_n hx hb dX13_heard_15 rfl (lv_at hl 0 rfl) ?_
    refine lv_ldc (v := (-1000001)) hx hb hown (hts _ q1403) dX13_heard_16 ?_
    refine fc_V (As := [.int (-1000001)]) (rest := []) hx hb hml hown hts hX hC (m_X13_finding 0 (vin_b rfl)) (lw_V q1404 q1406 qs56 q124 q1407) hdV_X13_finding ⟨rfl, rfl⟩ ⟨Nat.le_of_ble_eq_true rfl, Nat.le_of_ble_eq_true rfl⟩ (fx_recv (g := 0) (i := 0) (ci := 0) (q := (RX13, TX13, 24)) hX hC (min_ (by decide)) rfl rfl) hl.1 rfl (Nat.le_of_ble_eq_true rfl) ⟨Nat.zero_le _, Nat.zero_le _⟩ dX13_heard_18 (fun _ H locs hC => ?_)
    refine W.eq (g2 := F0 m 21 ls [.int (-1000001)]) rfl ?_
    have hs : s_heard d fd n = (((-1000001), p_find fd 0) : Int32 × Row) := by first | grind [s_heard] | rfl
    exact fr_i hx hb hr hlocks hX hC ⟨as, (sc 1)⟩ (congrArg (fun z => some (Value.int z)) (t2_1 hs)) ((congrArg (fun z => mct G (mpg d kp as bf (upd sc 1 (sc 1)) z tp it ws sz nu mv)) (t2_2 hs)).trans (congrArg (fun z => mct G (mpg d kp as bf z (p_find fd 0) tp it ws sz nu mv)) (by funext j; simp only [upd]; grind))).symm dX13_heard_21
  · refine lv_aload_n hx hb dX13_heard_7 rfl (lv_at hl 0 rfl) ?_
    refine lv_iload_n hx hb dX13_heard_8 rfl (lv_at hl 1 rfl) ?_
    refine fc_V (As := [.int n]) (rest := []) hx hb hml hown hts hX hC (m_X13_heardIn hw n) (lw_V q1586 q1588 qs80 q124 q1589) hdV_X13_heardIn ⟨rfl, rfl⟩ ⟨Nat.le_of_ble_eq_true rfl, Nat.le_of_ble_eq_true rfl⟩ (fx_recv (g := 0) (i := 0) (ci := 0) (q := (RX13, TX13, 24)) hX hC (min_ (by decide)) rfl rfl) hl.1 rfl (Nat.le_of_ble_eq_true rfl) ⟨Nat.zero_le _, Nat.zero_le _⟩ dX13_heard_9 (fun _ H locs hC => ?_)
    refine W.eq (g2 := F0 m 12 ls [.int (p_heard d (ix n))]) rfl ?_
    refine lv_goto (tgt := 21) hx hb dX13_heard_12 (by decide) ?_
    have hs : s_heard d fd n = ((p_heard d (ix n), fd) : Int32 × Row) := by first | grind [s_heard] | rfl
    exact fr_i hx hb hr hlocks hX hC ⟨d, (p_ran d (ix n))⟩ (congrArg (fun z => some (Value.int z)) (t2_1 hs)) (congrArg (fun z => mct G (mpg d kp d bf (upd sc 1 (p_ran d (ix n))) z tp it ws sz nu mv)) (t2_2 hs)).symm dX13_heard_21
set_option maxRecDepth 100000 in
theorem m_X13_when {l : Launch} {G : Gm} {d kp as bf sc fd tp it ws sz nu mv : Row} (hw : WF d) (cell : Int32) : Cm l yX13_when (ws_ yX13_when cX13_when 3 (some .int)) ({ frames := 2, cells := 0, slots := 0, locals := 43 }) (mF G) [.ref (G.ad 0 0), .int cell] (mct G (mpg d kp as bf sc fd tp it ws sz nu mv)) (fun u : Row => some (.int ((s_when d fd cell).1))) (fun u => mct G (mpg d kp u bf sc ((s_when d fd cell).2) tp it ws sz nu mv)) := by
  refine Cm.start (by decide) (Nat.le_of_ble_eq_true rfl) ?_
  intro p e s m below meth c hf hX hC ls hl
  obtain ⟨hx, hb, hr, hml, hown, hts, hlocks⟩ := hf
  have hl : lv_has ls 3 [(0, .ref (G.ad 0 0)), (1, .int cell)] := hl
  have hown : s.vm.findClass "OwlEarsModel" = some m.cls := hown
  refine lv_iload_n hx hb dX13_when_0 rfl (lv_at hl 1 rfl) ?_
  refine fc_S (As := [.int cell]) (rest := []) hx hb hml hown hts hX hC (m_X13_isCell cell) (lw_S q1387 q1388 q124 q1389) hdS_X13_isCell ⟨rfl, rfl⟩ ⟨Nat.le_of_ble_eq_true rfl, Nat.le_of_ble_eq_true rfl⟩ hl.1 rfl (Nat.le_of_ble_eq_true rfl) ⟨Nat.zero_le _, Nat.zero_le _⟩ dX13_when_1 (fun _ H locs hC => ?_)
  refine W.eq (g2 := F0 m 4 ls [.int (b2i (p_in cell 0 35))]) rfl ?_
  refine fb_ne (tgt := 14) hx hb dX13_when_4 (by decide) (fun c_2 => ?_) (fun c_2 => ?_)
  · refine lv_aload_n hx hb dX13_when_14 rfl (lv_at hl 0 rfl) ?_
    refine fg_get (C := RX13) (T := TX13) (N := 24) (ci := 0) (g := 0) (i := 0) (v := .ref (G.ad 0 1)) hx hb hown hts hX hC in_X13 rfl (min_ (by decide)) rfl 0 (by decide) q1310 (fun _ h => h) rfl dX13_when_15 ?_
    refine lv_aload_n hx hb dX13_when_18 rfl (lv_at hl 0 rfl) ?_
    refine fg_get (C := RX13) (T := TX13) (N := 24) (ci := 0) (g := 0) (i := 0) (v := .ref (G.ad 0 3)) hx hb hown hts hX hC in_X13 rfl (min_ (by decide)) rfl 2 (by decide) q1312 (fun _ h => h) rfl dX13_when_19 ?_
    refine fc_S (As := [.ref (G.ad 0 1), .ref (G.ad 0 3)]) (rest := []) hx hb hml hown hts hX hC (m_X13_copyRow (g1 := 0) (i1 := 1) (g2 := 0) (i2 := 3) (t0 := 0) (ctn := mct G (mpg d kp d bf sc fd tp it ws sz nu mv)) (min_ (by decide)) rfl (min_ (by decide)) rfl rfl (by decide) (mu mp3 (fun _ _ h => h))) (lw_S q1491 q1492 q124 q1493) hdS_X13_copyRow ⟨rfl, rfl⟩ ⟨Nat.le_of_ble_eq_true rfl, Nat.le_of_ble_eq_true rfl⟩ hl.1 rfl (Nat.le_of_ble_eq_true rfl) ⟨Nat.zero_le _, Nat.zero_le _⟩ dX13_when_22 (fun _ H locs hC => ?_)
    refine W.eq (g2 := F0 m 25 ls []) rfl ?_
    refine lv_iconst (v := 0) hx hb dX13_when_25 rfl ?_
    refine lv_istore_n (lv' := [(2, .int 0), (0, .ref (G.ad 0 0)), (1, .int cell)]) hx hb dX13_when_26 rfl hl (by decide) rfl (fun ls hl => ?_)
    have L_3 : ∀ (k3 i3 : Nat), i3 + k3 = 200 → p_fst (fun i => p_ticks i d 3 = cell) 201 0 = p_fst (fun i => p_ticks i d 3 = cell) (k3 + 1) i3 → ∀ (H : Heap) (locs : List Loc), fC (mF G) (mct G (mpg (p_ticks i3 d) kp d bf sc fd tp it ws sz nu mv)) s.heap H locs → ∀ ls : Array Slot, lv_has ls 3 [(2, .int (nI i3)), (0, .ref (G.ad 0 0)), (1, .int cell)] → WG p l e ({ frames := 2, cells := 0, slots := 0, locals := 43 }) s m (([.ref (G.ad 0 0), .int cell] : List Value).toArray) below meth c H locs (mF G) (fun u : Row => some (.int ((s_when d fd cell).1))) (fun u => mct G (mpg d kp u bf sc ((s_when d fd cell).2) tp it ws sz nu mv)) (F0 m 27 ls []) := by
      intro k3
      induction k3 with
      | zero =>
        intro i3 hi3 hJ3 H locs hC ls hl
        obtain rfl : i3 = 200 := by omega
        refine lv_iload_n hx hb dX13_when_27 rfl (lv_at hl 0 rfl) ?_
        refine lv_sipush (v := 200) hx hb dX13_when_28 rfl ?_
        refine fj_ge (tgt := 54) hx hb dX13_when_31 (by decide) (fun _ => ?_) (fun z_4 => absurd z_4 (by decide))
        refine lv_aload_n hx hb dX13_when_54 rfl (lv_at hl 1 rfl) ?_
        refine lv_aload_n hx hb dX13_when_55 rfl (lv_at hl 1 rfl) ?_
        refine lv_aload_n hx hb dX13_when_56 rfl (lv_at hl 1 rfl) ?_
        refine fg_get (C := RX13) (T := TX13) (N := 24) (ci := 0) (g := 0) (i := 0) (v := .ref (G.ad 0 1)) hx hb hown hts hX hC in_X13 rfl (min_ (by decide)) rfl 0 (by decide) q1310 (fun _ h => h) rfl dX13_when_57 ?_
        refine lv_iconst (v := 3) hx hb dX13_when_60 rfl ?_
        refine fg_iald (g := 0) (i := 1) (t0 := 0) (v := (p_ticks 200 d) 3) hx hb hX hC (min_ (by decide)) rfl rfl (vin_b rfl) rfl dX13_when_61 ?_
        refine lv_iload_n hx hb dX13_when_62 rfl (lv_at hl 2 rfl) ?_
        refine lv_icmp_ne (tgt := 70) hx hb dX13_when_63 (by decide) (fun c_5 => ?_) (fun c_5 => ?_)
        · refine lv_iconst (v := (-1)) hx hb dX13_when_70 rfl ?_
          refine fc_V (As := [.int (-1)]) (rest := [.ref (G.ad 0 0)]) hx hb hml hown hts hX hC (m_X13_putBack (-1)) (lw_V q1578 q1580 qs79 q124 q1581) hdV_X13_putBack ⟨rfl, rfl⟩ ⟨Nat.le_of_ble_eq_true rfl, Nat.le_of_ble_eq_true rfl⟩ (fx_recv (g := 0) (i := 0) (ci := 0) (q := (RX13, TX13, 24)) hX hC (min_ (by decide)) rfl rfl) hl.1 rfl (Nat.le_of_ble_eq_true rfl) ⟨Nat.zero_le _, Nat.zero_le _⟩ dX13_when_71 (fun _ H locs hC => ?_)
          refine W.eq (g2 := F0 m 74 ls [.int (-1), .ref (G.ad 0 0)]) rfl ?_
          refine fc_V (As := [.int (-1)]) (rest := []) hx hb hml hown hts hX hC (m_X13_orNone (-1)) (lw_V q1594 q1596 qs81 q124 q1597) hdV_X13_orNone ⟨rfl, rfl⟩ ⟨Nat.le_of_ble_eq_true rfl, Nat.le_of_ble_eq_true rfl⟩ (fx_recv (g := 0) (i := 0) (ci := 0) (q := (RX13, TX13, 24)) hX hC (min_ (by decide)) rfl rfl) hl.1 rfl (Nat.le_of_ble_eq_true rfl) ⟨Nat.zero_le _, Nat.zero_le _⟩ dX13_when_74 (fun _ H locs hC => ?_)
          refine W.eq (g2 := F0 m 77 ls [.int (if (-1) < 0 then -1000004 else (-1))]) rfl ?_
          have hs : s_when d fd cell = ((if (-1) < 0 then -1000004 else (-1), if (-1) < 0 then p_find fd 3 else fd) : Int32 × Row) := by have hz : p_fst (fun i => p_ticks i d 3 = cell) 201 0 = -1 := hJ3.trans ((p_fst_f c_5).trans rfl); rw [s_when, if_pos c_2]; unfold p_till; rw [hz]; simp [p_none]
          exact fr_i hx hb hr hlocks hX hC d (congrArg (fun z => some (Value.int z)) (t2_1 hs)) (congrArg (fun z => mct G (mpg d kp d bf sc z tp it ws sz nu mv)) (t2_2 hs)).symm dX13_when_77
        · refine lv_iload_n hx hb dX13_when_66 rfl (lv_at hl 0 rfl) ?_
          refine lv_goto (tgt := 71) hx hb dX13_when_67 (by decide) ?_
          refine fc_V (As := [.int (nI 200)]) (rest := [.ref (G.ad 0 0)]) hx hb hml hown hts hX hC (m_X13_putBack (nI 200)) (lw_V q1578 q1580 qs79 q124 q1581) hdV_X13_putBack ⟨rfl, rfl⟩ ⟨Nat.le_of_ble_eq_true rfl, Nat.le_of_ble_eq_true rfl⟩ (fx_recv (g := 0) (i := 0) (ci := 0) (q := (RX13, TX13, 24)) hX hC (min_ (by decide)) rfl rfl) hl.1 rfl (Nat.le_of_ble_eq_true rfl) ⟨Nat.zero_le _, Nat.zero_le _⟩ dX13_when_71 (fun _ H locs hC => ?_)
          refine W.eq (g2 := F0 m 74 ls [.int (nI 200), .ref (G.ad 0 0)]) rfl ?_
          refine fc_V (As := [.int (nI 200)]) (rest := []) hx hb hml hown hts hX hC (m_X13_orNone (nI 200)) (lw_V q1594 q1596 qs81 q124 q1597) hdV_X13_orNone ⟨rfl, rfl⟩ ⟨Nat.le_of_ble_eq_true rfl, Nat.le_of_ble_eq_true rfl⟩ (fx_recv (g := 0) (i := 0) (ci := 0) (q := (RX13, TX13, 24)) hX hC (min_ (by decide)) rfl rfl) hl.1 rfl (Nat.le_of_ble_eq_true rfl) ⟨Nat.zero_le _, Nat.zero_le _⟩ dX13_when_74 (fun _ H locs hC => ?_)
          refine W.eq (g2 := F0 m 77 ls [.int (if (nI 200) < 0 then -1000004 else (nI 200))]) rfl ?_
          have hs : s_when d fd cell = ((if (nI 200) < 0 then -1000004 else (nI 200), if (nI 200) < 0 then p_find fd 3 else fd) : Int32 × Row) := by have hz := hJ3.trans (p_fst_t c_5); rw [s_when, if_pos c_2]; unfold p_till; rw [hz]; have hq : ¬ nI 200 = -1 := nI_ne1 (by omega); simp [p_none, hq, nI_pos (n := 200) (by omega)]
          exact fr_i hx hb hr hlocks hX hC d (congrArg (fun z => some (Value.int z)) (t2_1 hs)) (congrArg (fun z => mct G (mpg d kp d bf sc z tp it ws sz nu mv)) (t2_2 hs)).symm dX13_when_77
      | succ k3 ih3 =>
        intro i3 hi3 hJ3 H locs hC ls hl
        refine lv_iload_n hx hb dX13_when_27 rfl (lv_at hl 0 rfl) ?_
        refine lv_sipush (v := 200) hx hb dX13_when_28 rfl ?_
        refine fj_ge (tgt := 54) hx hb dX13_when_31 (by decide) (fun z_10 => absurd (nI_lt (a := i3) (b := 200) (by omega) (by decide)) z_10) (fun _ => ?_)
        refine lv_aload_n hx hb dX13_when_34 rfl (lv_at hl 1 rfl) ?_
        refine fg_get (C := RX13) (T := TX13) (N := 24) (ci := 0) (g := 0) (i := 0) (v := .ref (G.ad 0 1)) hx hb hown hts hX hC in_X13 rfl (min_ (by decide)) rfl 0 (by decide) q1310 (fun _ h => h) rfl dX13_when_35 ?_
        refine lv_iconst (v := 3) hx hb dX13_when_38 rfl ?_
        refine fg_iald (g := 0) (i := 1) (t0 := 0) (v := (p_ticks i3 d) 3) hx hb hX hC (min_ (by decide)) rfl rfl (vin_b rfl) rfl dX13_when_39 ?_
        refine lv_iload_n hx hb dX13_when_40 rfl (lv_at hl 2 rfl) ?_
        refine lv_icmp_eq (tgt := 54) hx hb dX13_when_41 (by decide) (fun c_11 => ?_) (fun c_11 => ?_)
        · refine lv_aload_n hx hb dX13_when_54 rfl (lv_at hl 1 rfl) ?_
          refine lv_aload_n hx hb dX13_when_55 rfl (lv_at hl 1 rfl) ?_
          refine lv_aload_n hx hb dX13_when_56 rfl (lv_at hl 1 rfl) ?_
          refine fg_get (C := RX13) (T := TX13) (N := 24) (ci := 0) (g := 0) (i := 0) (v := .ref (G.ad 0 1)) hx hb hown hts hX hC in_X13 rfl (min_ (by decide)) rfl 0 (by decide) q1310 (fun _ h => h) rfl dX13_when_57 ?_
          refine lv_iconst (v := 3) hx hb dX13_when_60 rfl ?_
          refine fg_iald (g := 0) (i := 1) (t0 := 0) (v := (p_ticks i3 d) 3) hx hb hX hC (min_ (by decide)) rfl rfl (vin_b rfl) rfl dX13_when_61 ?_
          refine lv_iload_n hx hb dX13_when_62 rfl (lv_at hl 2 rfl) ?_
          refine lv_icmp_ne (tgt := 70) hx hb dX13_when_63 (by decide) (fun z_12 => absurd c_11 z_12) (fun _ => ?_)
          refine lv_iload_n hx hb dX13_when_66 rfl (lv_at hl 0 rfl) ?_
          refine lv_goto (tgt := 71) hx hb dX13_when_67 (by decide) ?_
          refine fc_V (As := [.int (nI i3)]) (rest := [.ref (G.ad 0 0)]) hx hb hml hown hts hX hC (m_X13_putBack (nI i3)) (lw_V q1578 q1580 qs79 q124 q1581) hdV_X13_putBack ⟨rfl, rfl⟩ ⟨Nat.le_of_ble_eq_true rfl, Nat.le_of_ble_eq_true rfl⟩ (fx_recv (g := 0) (i := 0) (ci := 0) (q := (RX13, TX13, 24)) hX hC (min_ (by decide)) rfl rfl) hl.1 rfl (Nat.le_of_ble_eq_true rfl) ⟨Nat.zero_le _, Nat.zero_le _⟩ dX13_when_71 (fun _ H locs hC => ?_)
          refine W.eq (g2 := F0 m 74 ls [.int (nI i3), .ref (G.ad 0 0)]) rfl ?_
          refine fc_V (As := [.int (nI i3)]) (rest := []) hx hb hml hown hts hX hC (m_X13_orNone (nI i3)) (lw_V q1594 q1596 qs81 q124 q1597) hdV_X13_orNone ⟨rfl, rfl⟩ ⟨Nat.le_of_ble_eq_true rfl, Nat.le_of_ble_eq_true rfl⟩ (fx_recv (g := 0) (i := 0) (ci := 0) (q := (RX13, TX13, 24)) hX hC (min_ (by decide)) rfl rfl) hl.1 rfl (Nat.le_of_ble_eq_true rfl) ⟨Nat.zero_le _, Nat.zero_le _⟩ dX13_when_74 (fun _ H locs hC => ?_)
          refine W.eq (g2 := F0 m 77 ls [.int (if (nI i3) < 0 then -1000004 else (nI i3))]) rfl ?_
          have hs : s_when d fd cell = ((if (nI i3) < 0 then -1000004 else (nI i3), if (nI i3) < 0 then p_find fd 3 else fd) : Int32 × Row) := by have hz := hJ3.trans (p_fst_t c_11); rw [s_when, if_pos c_2]; unfold p_till; rw [hz]; have hq : ¬ nI i3 = -1 := nI_ne1 (by omega); simp [p_none, hq, nI_pos (n := i3) (by omega)]
          exact fr_i hx hb hr hlocks hX hC d (congrArg (fun z => some (Value.int z)) (t2_1 hs)) (congrArg (fun z => mct G (mpg d kp d bf sc z tp it ws sz nu mv)) (t2_2 hs)).symm dX13_when_77
        · refine lv_aload_n hx hb dX13_when_44 rfl (lv_at hl 1 rfl) ?_
          refine fc_V (As := []) (rest := []) hx hb hml hown hts hX hC (m_X13_tick (hw.ticks _)) (lw_V q1498 q1500 qs69 q124 q1501) hdV_X13_tick ⟨rfl, rfl⟩ ⟨Nat.le_of_ble_eq_true rfl, Nat.le_of_ble_eq_true rfl⟩ (fx_recv (g := 0) (i := 0) (ci := 0) (q := (RX13, TX13, 24)) hX hC (min_ (by decide)) rfl rfl) hl.1 rfl (Nat.le_of_ble_eq_true rfl) ⟨Nat.zero_le _, Nat.zero_le _⟩ dX13_when_45 (fun _ H locs hC => ?_)
          refine W.eq (g2 := F0 m 48 ls []) rfl ?_
          refine lv_iinc (v := nI (i3 + 1)) (lv' := [(2, .int (nI (i3 + 1))), (0, .ref (G.ad 0 0)), (1, .int cell)]) hx hb dX13_when_48 hl (k := 0) rfl (nI_1 _) (by decide) rfl (fun ls hl => ?_)
          refine lv_goto (tgt := 27) hx hb dX13_when_51 (by decide) ?_
          exact ih3 (i3 + 1) (by omega) (hJ3.trans (p_fst_f c_11)) _ _ hC ls (lv_sub hl [0, 1, 2] rfl)
    exact L_3 200 0 rfl rfl _ _ hC ls (lv_sub hl [0, 1, 2] rfl)
  · refine lv_aload_n hx hb dX13_when_7 rfl (lv_at hl 0 rfl) ?_
    refine lv_ldc (v := (-1000001)) hx hb hown (hts _ q1403) dX13_when_8 ?_
    refine fc_V (As := [.int (-1000001)]) (rest := []) hx hb hml hown hts hX hC (m_X13_finding 0 (vin_b rfl)) (lw_V q1404 q1406 qs56 q124 q1407) hdV_X13_finding ⟨rfl, rfl⟩ ⟨Nat.le_of_ble_eq_true rfl, Nat.le_of_ble_eq_true rfl⟩ (fx_recv (g := 0) (i := 0) (ci := 0) (q := (RX13, TX13, 24)) hX hC (min_ (by decide)) rfl rfl) hl.1 rfl (Nat.le_of_ble_eq_true rfl) ⟨Nat.zero_le _, Nat.zero_le _⟩ dX13_when_10 (fun _ H locs hC => ?_)
    refine W.eq (g2 := F0 m 13 ls [.int (-1000001)]) rfl ?_
    have hs : s_when d fd cell = (((-1000001), p_find fd 0) : Int32 × Row) := by rw [s_when, if_neg c_2]
    exact fr_i hx hb hr hlocks hX hC as (congrArg (fun z => some (Value.int z)) (t2_1 hs)) (congrArg (fun z => mct G (mpg d kp as bf sc z tp it ws sz nu mv)) (t2_2 hs)).symm dX13_when_13
set_option maxRecDepth 100000 in
theorem m_X13_rustle {l : Launch} {G : Gm} {d kp as bf sc fd tp it ws sz nu mv : Row} (hw : WF d)  : Cm l yX13_rustle (ws_ yX13_rustle cX13_rustle 2 (some .int)) ({ frames := 4, cells := 0, slots := 0, locals := 81 }) (mF G) [.ref (G.ad 0 0)] (mct G (mpg d kp as bf sc fd tp it ws sz nu mv)) (fun u : Row => some (.int ((s_rustle d fd).1))) (fun u => mct G (mpg d kp u bf sc ((s_rustle d fd).2) tp it ws sz nu mv)) := by
  refine Cm.start (by decide) (Nat.le_of_ble_eq_true rfl) ?_
  intro p e s m below meth c hf hX hC ls hl
  obtain ⟨hx, hb, hr, hml, hown, hts, hlocks⟩ := hf
  have hl : lv_has ls 2 [(0, .ref (G.ad 0 0))] := hl
  have hown : s.vm.findClass "OwlEarsModel" = some m.cls := hown
  refine lv_aload_n hx hb dX13_rustle_0 rfl (lv_at hl 0 rfl) ?_
  refine fg_get (C := RX13) (T := TX13) (N := 24) (ci := 0) (g := 0) (i := 0) (v := .ref (G.ad 0 1)) hx hb hown hts hX hC in_X13 rfl (min_ (by decide)) rfl 0 (by decide) q1310 (fun _ h => h) rfl dX13_rustle_1 ?_
  refine lv_aload_n hx hb dX13_rustle_4 rfl (lv_at hl 0 rfl) ?_
  refine fg_get (C := RX13) (T := TX13) (N := 24) (ci := 0) (g := 0) (i := 0) (v := .ref (G.ad 0 3)) hx hb hown hts hX hC in_X13 rfl (min_ (by decide)) rfl 2 (by decide) q1312 (fun _ h => h) rfl dX13_rustle_5 ?_
  refine fc_S (As := [.ref (G.ad 0 1), .ref (G.ad 0 3)]) (rest := []) hx hb hml hown hts hX hC (m_X13_copyRow (g1 := 0) (i1 := 1) (g2 := 0) (i2 := 3) (t0 := 0) (ctn := mct G (mpg d kp d bf sc fd tp it ws sz nu mv)) (min_ (by decide)) rfl (min_ (by decide)) rfl rfl (by decide) (mu mp3 (fun _ _ h => h))) (lw_S q1491 q1492 q124 q1493) hdS_X13_copyRow ⟨rfl, rfl⟩ ⟨Nat.le_of_ble_eq_true rfl, Nat.le_of_ble_eq_true rfl⟩ hl.1 rfl (Nat.le_of_ble_eq_true rfl) ⟨Nat.zero_le _, Nat.zero_le _⟩ dX13_rustle_8 (fun _ H locs hC => ?_)
  refine W.eq (g2 := F0 m 11 ls []) rfl ?_
  refine lv_iconst (v := 0) hx hb dX13_rustle_11 rfl ?_
  refine lv_istore_n (lv' := [(1, .int 0), (0, .ref (G.ad 0 0))]) hx hb dX13_rustle_12 rfl hl (by decide) rfl (fun ls hl => ?_)
  have L_1 : ∀ (k1 i1 : Nat), i1 + k1 = 200 → p_fst (fun i => p_hears (p_ticks i d)) 201 0 = p_fst (fun i => p_hears (p_ticks i d)) (k1 + 1) i1 → ∀ (H : Heap) (locs : List Loc), fC (mF G) (mct G (mpg (p_ticks i1 d) kp d bf sc fd tp it ws sz nu mv)) s.heap H locs → ∀ ls : Array Slot, lv_has ls 2 [(1, .int (nI i1)), (0, .ref (G.ad 0 0))] → WG p l e ({ frames := 4, cells := 0, slots := 0, locals := 81 }) s m (([.ref (G.ad 0 0)] : List Value).toArray) below meth c H locs (mF G) (fun u : Row => some (.int ((s_rustle d fd).1))) (fun u => mct G (mpg d kp u bf sc ((s_rustle d fd).2) tp it ws sz nu mv)) (F0 m 13 ls []) := by
    intro k1
    induction k1 with
    | zero =>
      intro i1 hi1 hJ1 H locs hC ls hl
      obtain rfl : i1 = 200 := by omega
      refine lv_iload_n hx hb dX13_rustle_13 rfl (lv_at hl 0 rfl) ?_
      refine lv_sipush (v := 200) hx hb dX13_rustle_14 rfl ?_
      refine fj_ge (tgt := 37) hx hb dX13_rustle_17 (by decide) (fun _ => ?_) (fun z_2 => absurd z_2 (by decide))
      refine lv_aload_n hx hb dX13_rustle_37 rfl (lv_at hl 1 rfl) ?_
      refine lv_aload_n hx hb dX13_rustle_38 rfl (lv_at hl 1 rfl) ?_
      refine lv_aload_n hx hb dX13_rustle_39 rfl (lv_at hl 1 rfl) ?_
      refine fc_V (As := []) (rest := [.ref (G.ad 0 0), .ref (G.ad 0 0)]) hx hb hml hown hts hX hC (m_X13_hears (hw.ticks _)) (lw_V q1535 q1537 qs72 q124 q1538) hdV_X13_hears ⟨rfl, rfl⟩ ⟨Nat.le_of_ble_eq_true rfl, Nat.le_of_ble_eq_true rfl⟩ (fx_recv (g := 0) (i := 0) (ci := 0) (q := (RX13, TX13, 24)) hX hC (min_ (by decide)) rfl rfl) hl.1 rfl (Nat.le_of_ble_eq_true rfl) ⟨Nat.zero_le _, Nat.zero_le _⟩ dX13_rustle_40 (fun _ H locs hC => ?_)
      refine W.eq (g2 := F0 m 43 ls [.int (b2i (p_hears (p_ticks 200 d))), .ref (G.ad 0 0), .ref (G.ad 0 0)]) rfl ?_
      refine fb_eq (tgt := 50) hx hb dX13_rustle_43 (by decide) (fun c_4 => ?_) (fun c_4 => ?_)
      · refine lv_iconst (v := (-1)) hx hb dX13_rustle_50 rfl ?_
        refine fc_V (As := [.int (-1)]) (rest := [.ref (G.ad 0 0)]) hx hb hml hown hts hX hC (m_X13_putBack (-1)) (lw_V q1578 q1580 qs79 q124 q1581) hdV_X13_putBack ⟨rfl, rfl⟩ ⟨Nat.le_of_ble_eq_true rfl, Nat.le_of_ble_eq_true rfl⟩ (fx_recv (g := 0) (i := 0) (ci := 0) (q := (RX13, TX13, 24)) hX hC (min_ (by decide)) rfl rfl) hl.1 rfl (Nat.le_of_ble_eq_true rfl) ⟨Nat.zero_le _, Nat.zero_le _⟩ dX13_rustle_51 (fun _ H locs hC => ?_)
        refine W.eq (g2 := F0 m 54 ls [.int (-1), .ref (G.ad 0 0)]) rfl ?_
        refine fc_V (As := [.int (-1)]) (rest := []) hx hb hml hown hts hX hC (m_X13_orNone (-1)) (lw_V q1594 q1596 qs81 q124 q1597) hdV_X13_orNone ⟨rfl, rfl⟩ ⟨Nat.le_of_ble_eq_true rfl, Nat.le_of_ble_eq_true rfl⟩ (fx_recv (g := 0) (i := 0) (ci := 0) (q := (RX13, TX13, 24)) hX hC (min_ (by decide)) rfl rfl) hl.1 rfl (Nat.le_of_ble_eq_true rfl) ⟨Nat.zero_le _, Nat.zero_le _⟩ dX13_rustle_54 (fun _ H locs hC => ?_)
        refine W.eq (g2 := F0 m 57 ls [.int (if (-1) < 0 then -1000004 else (-1))]) rfl ?_
        have hs : s_rustle d fd = ((if (-1) < 0 then -1000004 else (-1), if (-1) < 0 then p_find fd 3 else fd) : Int32 × Row) := by have hz : p_fst (fun i => p_hears (p_ticks i d)) 201 0 = -1 := hJ1.trans ((p_fst_f c_4).trans rfl); rw [s_rustle]; unfold p_rustle; rw [hz]; simp [p_none]
        exact fr_i hx hb hr hlocks hX hC d (congrArg (fun z => some (Value.int z)) (t2_1 hs)) (congrArg (fun z => mct G (mpg d kp d bf sc z tp it ws sz nu mv)) (t2_2 hs)).symm dX13_rustle_57
      · refine lv_iload_n hx hb dX13_rustle_46 rfl (lv_at hl 0 rfl) ?_
        refine lv_goto (tgt := 51) hx hb dX13_rustle_47 (by decide) ?_
        refine fc_V (As := [.int (nI 200)]) (rest := [.ref (G.ad 0 0)]) hx hb hml hown hts hX hC (m_X13_putBack (nI 200)) (lw_V q1578 q1580 qs79 q124 q1581) hdV_X13_putBack ⟨rfl, rfl⟩ ⟨Nat.le_of_ble_eq_true rfl, Nat.le_of_ble_eq_true rfl⟩ (fx_recv (g := 0) (i := 0) (ci := 0) (q := (RX13, TX13, 24)) hX hC (min_ (by decide)) rfl rfl) hl.1 rfl (Nat.le_of_ble_eq_true rfl) ⟨Nat.zero_le _, Nat.zero_le _⟩ dX13_rustle_51 (fun _ H locs hC => ?_)
        refine W.eq (g2 := F0 m 54 ls [.int (nI 200), .ref (G.ad 0 0)]) rfl ?_
        refine fc_V (As := [.int (nI 200)]) (rest := []) hx hb hml hown hts hX hC (m_X13_orNone (nI 200)) (lw_V q1594 q1596 qs81 q124 q1597) hdV_X13_orNone ⟨rfl, rfl⟩ ⟨Nat.le_of_ble_eq_true rfl, Nat.le_of_ble_eq_true rfl⟩ (fx_recv (g := 0) (i := 0) (ci := 0) (q := (RX13, TX13, 24)) hX hC (min_ (by decide)) rfl rfl) hl.1 rfl (Nat.le_of_ble_eq_true rfl) ⟨Nat.zero_le _, Nat.zero_le _⟩ dX13_rustle_54 (fun _ H locs hC => ?_)
        refine W.eq (g2 := F0 m 57 ls [.int (if (nI 200) < 0 then -1000004 else (nI 200))]) rfl ?_
        have hs : s_rustle d fd = ((if (nI 200) < 0 then -1000004 else (nI 200), if (nI 200) < 0 then p_find fd 3 else fd) : Int32 × Row) := by have hz := hJ1.trans (p_fst_t c_4); rw [s_rustle]; unfold p_rustle; rw [hz]; have hq : ¬ nI 200 = -1 := nI_ne1 (by omega); simp [p_none, hq, nI_pos (n := 200) (by omega)]
        exact fr_i hx hb hr hlocks hX hC d (congrArg (fun z => some (Value.int z)) (t2_1 hs)) (congrArg (fun z => mct G (mpg d kp d bf sc z tp it ws sz nu mv)) (t2_2 hs)).symm dX13_rustle_57
    | succ k1 ih1 =>
      intro i1 hi1 hJ1 H locs hC ls hl
      refine lv_iload_n hx hb dX13_rustle_13 rfl (lv_at hl 0 rfl) ?_
      refine lv_sipush (v := 200) hx hb dX13_rustle_14 rfl ?_
      refine fj_ge (tgt := 37) hx hb dX13_rustle_17 (by decide) (fun z_9 => absurd (nI_lt (a := i1) (b := 200) (by omega) (by decide)) z_9) (fun _ => ?_)
      refine lv_aload_n hx hb dX13_rustle_20 rfl (lv_at hl 1 rfl) ?_
      refine fc_V (As := []) (rest := []) hx hb hml hown hts hX hC (m_X13_hears (hw.ticks _)) (lw_V q1535 q1537 qs72 q124 q1538) hdV_X13_hears ⟨rfl, rfl⟩ ⟨Nat.le_of_ble_eq_true rfl, Nat.le_of_ble_eq_true rfl⟩ (fx_recv (g := 0) (i := 0) (ci := 0) (q := (RX13, TX13, 24)) hX hC (min_ (by decide)) rfl rfl) hl.1 rfl (Nat.le_of_ble_eq_true rfl) ⟨Nat.zero_le _, Nat.zero_le _⟩ dX13_rustle_21 (fun _ H locs hC => ?_)
      refine W.eq (g2 := F0 m 24 ls [.int (b2i (p_hears (p_ticks i1 d)))]) rfl ?_
      refine fb_ne (tgt := 37) hx hb dX13_rustle_24 (by decide) (fun c_11 => ?_) (fun c_11 => ?_)
      · refine lv_aload_n hx hb dX13_rustle_37 rfl (lv_at hl 1 rfl) ?_
        refine lv_aload_n hx hb dX13_rustle_38 rfl (lv_at hl 1 rfl) ?_
        refine lv_aload_n hx hb dX13_rustle_39 rfl (lv_at hl 1 rfl) ?_
        refine fc_V (As := []) (rest := [.ref (G.ad 0 0), .ref (G.ad 0 0)]) hx hb hml hown hts hX hC (m_X13_hears (hw.ticks _)) (lw_V q1535 q1537 qs72 q124 q1538) hdV_X13_hears ⟨rfl, rfl⟩ ⟨Nat.le_of_ble_eq_true rfl, Nat.le_of_ble_eq_true rfl⟩ (fx_recv (g := 0) (i := 0) (ci := 0) (q := (RX13, TX13, 24)) hX hC (min_ (by decide)) rfl rfl) hl.1 rfl (Nat.le_of_ble_eq_true rfl) ⟨Nat.zero_le _, Nat.zero_le _⟩ dX13_rustle_40 (fun _ H locs hC => ?_)
        refine W.eq (g2 := F0 m 43 ls [.int (b2i (p_hears (p_ticks i1 d))), .ref (G.ad 0 0), .ref (G.ad 0 0)]) rfl ?_
        refine fb_eq (tgt := 50) hx hb dX13_rustle_43 (by decide) (fun z_13 => absurd c_11 z_13) (fun _ => ?_)
        refine lv_iload_n hx hb dX13_rustle_46 rfl (lv_at hl 0 rfl) ?_
        refine lv_goto (tgt := 51) hx hb dX13_rustle_47 (by decide) ?_
        refine fc_V (As := [.int (nI i1)]) (rest := [.ref (G.ad 0 0)]) hx hb hml hown hts hX hC (m_X13_putBack (nI i1)) (lw_V q1578 q1580 qs79 q124 q1581) hdV_X13_putBack ⟨rfl, rfl⟩ ⟨Nat.le_of_ble_eq_true rfl, Nat.le_of_ble_eq_true rfl⟩ (fx_recv (g := 0) (i := 0) (ci := 0) (q := (RX13, TX13, 24)) hX hC (min_ (by decide)) rfl rfl) hl.1 rfl (Nat.le_of_ble_eq_true rfl) ⟨Nat.zero_le _, Nat.zero_le _⟩ dX13_rustle_51 (fun _ H locs hC => ?_)
        refine W.eq (g2 := F0 m 54 ls [.int (nI i1), .ref (G.ad 0 0)]) rfl ?_
        refine fc_V (As := [.int (nI i1)]) (rest := []) hx hb hml hown hts hX hC (m_X13_orNone (nI i1)) (lw_V q1594 q1596 qs81 q124 q1597) hdV_X13_orNone ⟨rfl, rfl⟩ ⟨Nat.le_of_ble_eq_true rfl, Nat.le_of_ble_eq_true rfl⟩ (fx_recv (g := 0) (i := 0) (ci := 0) (q := (RX13, TX13, 24)) hX hC (min_ (by decide)) rfl rfl) hl.1 rfl (Nat.le_of_ble_eq_true rfl) ⟨Nat.zero_le _, Nat.zero_le _⟩ dX13_rustle_54 (fun _ H locs hC => ?_)
        refine W.eq (g2 := F0 m 57 ls [.int (if (nI i1) < 0 then -1000004 else (nI i1))]) rfl ?_
        have hs : s_rustle d fd = ((if (nI i1) < 0 then -1000004 else (nI i1), if (nI i1) < 0 then p_find fd 3 else fd) : Int32 × Row) := by have hz := hJ1.trans (p_fst_t c_11); rw [s_rustle]; unfold p_rustle; rw [hz]; have hq : ¬ nI i1 = -1 := nI_ne1 (by omega); simp [p_none, hq, nI_pos (n := i1) (by omega)]
        exact fr_i hx hb hr hlocks hX hC d (congrArg (fun z => some (Value.int z)) (t2_1 hs)) (congrArg (fun z => mct G (mpg d kp d bf sc z tp it ws sz nu mv)) (t2_2 hs)).symm dX13_rustle_57
      · refine lv_aload_n hx hb dX13_rustle_27 rfl (lv_at hl 1 rfl) ?_
        refine fc_V (As := []) (rest := []) hx hb hml hown hts hX hC (m_X13_tick (hw.ticks _)) (lw_V q1498 q1500 qs69 q124 q1501) hdV_X13_tick ⟨rfl, rfl⟩ ⟨Nat.le_of_ble_eq_true rfl, Nat.le_of_ble_eq_true rfl⟩ (fx_recv (g := 0) (i := 0) (ci := 0) (q := (RX13, TX13, 24)) hX hC (min_ (by decide)) rfl rfl) hl.1 rfl (Nat.le_of_ble_eq_true rfl) ⟨Nat.zero_le _, Nat.zero_le _⟩ dX13_rustle_28 (fun _ H locs hC => ?_)
        refine W.eq (g2 := F0 m 31 ls []) rfl ?_
        refine lv_iinc (v := nI (i1 + 1)) (lv' := [(1, .int (nI (i1 + 1))), (0, .ref (G.ad 0 0))]) hx hb dX13_rustle_31 hl (k := 0) rfl (nI_1 _) (by decide) rfl (fun ls hl => ?_)
        refine lv_goto (tgt := 13) hx hb dX13_rustle_34 (by decide) ?_
        exact ih1 (i1 + 1) (by omega) (hJ1.trans (p_fst_f c_11)) _ _ hC ls (lv_sub hl [0, 1] rfl)
  exact L_1 200 0 rfl rfl _ _ hC ls (lv_sub hl [0, 1] rfl)
set_option maxRecDepth 100000 in
theorem m_X13_run {l : Launch} {G : Gm} {d kp as bf sc fd tp it ws sz nu mv : Row} (hw : WF d) (n : Int32) : Cm l yX13_run (ws_ yX13_run cX13_run 5 (some .long)) ({ frames := 2, cells := 0, slots := 0, locals := 42 }) (mF G) [.ref (G.ad 0 0), .int n] (mct G (mpg d kp as bf sc fd tp it ws sz nu mv)) (fun u : Row => some (.long ((s_run d fd n).1))) (fun u => mct G (mpg d kp u bf sc ((s_run d fd n).2) tp it ws sz nu mv)) := by
  refine Cm.start (by decide) (Nat.le_of_ble_eq_true rfl) ?_
  intro p e s m below meth c hf hX hC ls hl
  obtain ⟨hx, hb, hr, hml, hown, hts, hlocks⟩ := hf
  have hl : lv_has ls 5 [(0, .ref (G.ad 0 0)), (1, .int n)] := hl
  have hown : s.vm.findClass "OwlEarsModel" = some m.cls := hown
  refine lv_iload_n hx hb dX13_run_0 rfl (lv_at hl 1 rfl) ?_
  refine fc_S (As := [.int n]) (rest := []) hx hb hml hown hts hX hC (m_X13_isAheadBy n) (lw_S q1575 q1576 q124 q1577) hdS_X13_isAheadBy ⟨rfl, rfl⟩ ⟨Nat.le_of_ble_eq_true rfl, Nat.le_of_ble_eq_true rfl⟩ hl.1 rfl (Nat.le_of_ble_eq_true rfl) ⟨Nat.zero_le _, Nat.zero_le _⟩ dX13_run_1 (fun _ H locs hC => ?_)
  refine W.eq (g2 := F0 m 4 ls [.int (b2i (p_in n 0 200))]) rfl ?_
  refine fb_ne (tgt := 15) hx hb dX13_run_4 (by decide) (fun c_2 => ?_) (fun c_2 => ?_)
  · refine lv_aload_n hx hb dX13_run_15 rfl (lv_at hl 0 rfl) ?_
    refine fg_get (C := RX13) (T := TX13) (N := 24) (ci := 0) (g := 0) (i := 0) (v := .ref (G.ad 0 1)) hx hb hown hts hX hC in_X13 rfl (min_ (by decide)) rfl 0 (by decide) q1310 (fun _ h => h) rfl dX13_run_16 ?_
    refine lv_aload_n hx hb dX13_run_19 rfl (lv_at hl 0 rfl) ?_
    refine fg_get (C := RX13) (T := TX13) (N := 24) (ci := 0) (g := 0) (i := 0) (v := .ref (G.ad 0 3)) hx hb hown hts hX hC in_X13 rfl (min_ (by decide)) rfl 2 (by decide) q1312 (fun _ h => h) rfl dX13_run_20 ?_
    refine fc_S (As := [.ref (G.ad 0 1), .ref (G.ad 0 3)]) (rest := []) hx hb hml hown hts hX hC (m_X13_copyRow (g1 := 0) (i1 := 1) (g2 := 0) (i2 := 3) (t0 := 0) (ctn := mct G (mpg d kp d bf sc fd tp it ws sz nu mv)) (min_ (by decide)) rfl (min_ (by decide)) rfl rfl (by decide) (mu mp3 (fun _ _ h => h))) (lw_S q1491 q1492 q124 q1493) hdS_X13_copyRow ⟨rfl, rfl⟩ ⟨Nat.le_of_ble_eq_true rfl, Nat.le_of_ble_eq_true rfl⟩ hl.1 rfl (Nat.le_of_ble_eq_true rfl) ⟨Nat.zero_le _, Nat.zero_le _⟩ dX13_run_23 (fun _ H locs hC => ?_)
    refine W.eq (g2 := F0 m 26 ls []) rfl ?_
    refine lv_lconst (v := 1) hx hb dX13_run_26 rfl ?_
    refine lv_aload_n hx hb dX13_run_27 rfl (lv_at hl 0 rfl) ?_
    refine fg_get (C := RX13) (T := TX13) (N := 24) (ci := 0) (g := 0) (i := 0) (v := .ref (G.ad 0 1)) hx hb hown hts hX hC in_X13 rfl (min_ (by decide)) rfl 0 (by decide) q1310 (fun _ h => h) rfl dX13_run_28 ?_
    refine lv_iconst (v := 3) hx hb dX13_run_31 rfl ?_
    refine fg_iald (g := 0) (i := 1) (t0 := 0) (v := d 3) hx hb hX hC (min_ (by decide)) rfl rfl (vin_b rfl) rfl dX13_run_32 ?_
    refine lv_lshl (v := 1 <<< ((d 3).toInt64 &&& 63)) hx hb dX13_run_33 rfl ?_
    refine lv_lstore_n (lv' := [(2, .long (1 <<< ((d 3).toInt64 &&& 63))), (0, .ref (G.ad 0 0)), (1, .int n)]) hx hb dX13_run_34 rfl hl (by decide) rfl (fun ls hl => ?_)
    refine lv_iconst (v := 0) hx hb dX13_run_35 rfl ?_
    refine lv_istore (lv' := [(4, .int 0), (2, .long (1 <<< ((d 3).toInt64 &&& 63))), (0, .ref (G.ad 0 0)), (1, .int n)]) hx hb dX13_run_36 hl (by decide) rfl (fun ls hl => ?_)
    have L_3 : ∀ (k3 i3 : Nat), i3 + k3 = ix n → ∀ (H : Heap) (locs : List Loc), fC (mF G) (mct G (mpg (p_ticks i3 d) kp d bf sc fd tp it ws sz nu mv)) s.heap H locs → ∀ ls : Array Slot, lv_has ls 5 [(0, .ref (G.ad 0 0)), (1, .int n), (2, .long (p_cells d i3)), (4, .int (nI i3))] → WG p l e ({ frames := 2, cells := 0, slots := 0, locals := 42 }) s m (([.ref (G.ad 0 0), .int n] : List Value).toArray) below meth c H locs (mF G) (fun u : Row => some (.long ((s_run d fd n).1))) (fun u => mct G (mpg d kp u bf sc ((s_run d fd n).2) tp it ws sz nu mv)) (F0 m 38 ls []) := by
      intro k3
      induction k3 with
      | zero =>
        intro i3 hi3 H locs hC ls hl
        obtain rfl : i3 = ix n := by omega
        refine lv_iload hx hb dX13_run_38 (lv_at hl 3 rfl) ?_
        refine lv_iload_n hx hb dX13_run_40 rfl (lv_at hl 1 rfl) ?_
        refine fj_ge (tgt := 65) hx hb dX13_run_41 (by decide) (fun _ => ?_) (fun z_4 => absurd z_4 (nlt_ix (n := n)))
        refine lv_aload_n hx hb dX13_run_65 rfl (lv_at hl 0 rfl) ?_
        refine fg_get (C := RX13) (T := TX13) (N := 24) (ci := 0) (g := 0) (i := 0) (v := .ref (G.ad 0 3)) hx hb hown hts hX hC in_X13 rfl (min_ (by decide)) rfl 2 (by decide) q1312 (fun _ h => h) rfl dX13_run_66 ?_
        refine lv_aload_n hx hb dX13_run_69 rfl (lv_at hl 0 rfl) ?_
        refine fg_get (C := RX13) (T := TX13) (N := 24) (ci := 0) (g := 0) (i := 0) (v := .ref (G.ad 0 1)) hx hb hown hts hX hC in_X13 rfl (min_ (by decide)) rfl 0 (by decide) q1310 (fun _ h => h) rfl dX13_run_70 ?_
        refine fc_S (As := [.ref (G.ad 0 3), .ref (G.ad 0 1)]) (rest := []) hx hb hml hown hts hX hC (m_X13_copyRow (g1 := 0) (i1 := 3) (g2 := 0) (i2 := 1) (t0 := 0) (ctn := mct G (mpg d kp d bf sc fd tp it ws sz nu mv)) (min_ (by decide)) rfl (min_ (by decide)) rfl rfl (by decide) (mu mp1 (fun _ _ h => h))) (lw_S q1491 q1492 q124 q1493) hdS_X13_copyRow ⟨rfl, rfl⟩ ⟨Nat.le_of_ble_eq_true rfl, Nat.le_of_ble_eq_true rfl⟩ hl.1 rfl (Nat.le_of_ble_eq_true rfl) ⟨Nat.zero_le _, Nat.zero_le _⟩ dX13_run_73 (fun _ H locs hC => ?_)
        refine W.eq (g2 := F0 m 76 ls []) rfl ?_
        refine lv_lload_n hx hb dX13_run_76 rfl (lv_at hl 2 rfl) ?_
        have hs : s_run d fd n = ((p_cells d (ix n), fd) : Int64 × Row) := by first | grind [s_run] | rfl
        exact fr_l hx hb hr hlocks hX hC d (congrArg (fun z => some (Value.long z)) (t2_1 hs)) (congrArg (fun z => mct G (mpg d kp d bf sc z tp it ws sz nu mv)) (t2_2 hs)).symm dX13_run_77
      | succ k3 ih3 =>
        intro i3 hi3 H locs hC ls hl
        have hz3 : i3 < 2147483648 := by have := ix_lt n; omega
        refine lv_iload hx hb dX13_run_38 (lv_at hl 3 rfl) ?_
        refine lv_iload_n hx hb dX13_run_40 rfl (lv_at hl 1 rfl) ?_
        refine fj_ge (tgt := 65) hx hb dX13_run_41 (by decide) (fun z_5 => absurd (lt_ix (n := n) (show i3 < ix n by omega)) z_5) (fun _ => ?_)
        refine lv_aload_n hx hb dX13_run_44 rfl (lv_at hl 0 rfl) ?_
        refine fc_V (As := []) (rest := []) hx hb hml hown hts hX hC (m_X13_tick (hw.ticks _)) (lw_V q1498 q1500 qs69 q124 q1501) hdV_X13_tick ⟨rfl, rfl⟩ ⟨Nat.le_of_ble_eq_true rfl, Nat.le_of_ble_eq_true rfl⟩ (fx_recv (g := 0) (i := 0) (ci := 0) (q := (RX13, TX13, 24)) hX hC (min_ (by decide)) rfl rfl) hl.1 rfl (Nat.le_of_ble_eq_true rfl) ⟨Nat.zero_le _, Nat.zero_le _⟩ dX13_run_45 (fun _ H locs hC => ?_)
        refine W.eq (g2 := F0 m 48 ls []) rfl ?_
        refine lv_lload_n hx hb dX13_run_48 rfl (lv_at hl 2 rfl) ?_
        refine lv_lconst (v := 1) hx hb dX13_run_49 rfl ?_
        refine lv_aload_n hx hb dX13_run_50 rfl (lv_at hl 0 rfl) ?_
        refine fg_get (C := RX13) (T := TX13) (N := 24) (ci := 0) (g := 0) (i := 0) (v := .ref (G.ad 0 1)) hx hb hown hts hX hC in_X13 rfl (min_ (by decide)) rfl 0 (by decide) q1310 (fun _ h => h) rfl dX13_run_51 ?_
        refine lv_iconst (v := 3) hx hb dX13_run_54 rfl ?_
        refine fg_iald (g := 0) (i := 1) (t0 := 0) (v := (p_tick (p_ticks i3 d)) 3) hx hb hX hC (min_ (by decide)) rfl rfl (vin_b rfl) rfl dX13_run_55 ?_
        refine lv_lshl (v := 1 <<< (((p_tick (p_ticks i3 d)) 3).toInt64 &&& 63)) hx hb dX13_run_56 rfl ?_
        refine lv_lor hx hb dX13_run_57 ?_
        refine lv_lstore_n (lv' := [(2, .long ((p_cells d i3) ||| (1 <<< (((p_tick (p_ticks i3 d)) 3).toInt64 &&& 63)))), (0, .ref (G.ad 0 0)), (1, .int n), (4, .int (nI i3))]) hx hb dX13_run_58 rfl hl (by decide) rfl (fun ls hl => ?_)
        refine lv_iinc (v := nI (i3 + 1)) (lv' := [(4, .int (nI (i3 + 1))), (2, .long ((p_cells d i3) ||| (1 <<< (((p_tick (p_ticks i3 d)) 3).toInt64 &&& 63)))), (0, .ref (G.ad 0 0)), (1, .int n)]) hx hb dX13_run_59 hl (k := 3) rfl (nI_1 _) (by decide) rfl (fun ls hl => ?_)
        refine lv_goto (tgt := 38) hx hb dX13_run_62 (by decide) ?_
        exact ih3 (i3 + 1) (by omega) _ _ hC ls (lv_sub hl [2, 3, 1, 0] rfl)
    exact L_3 (ix n) 0 (by omega) _ _ hC ls (lv_sub hl [2, 3, 1, 0] rfl)
  · refine lv_aload_n hx hb dX13_run_7 rfl (lv_at hl 0 rfl) ?_
    refine lv_ldc (v := (-1000001)) hx hb hown (hts _ q1403) dX13_run_8 ?_
    refine fc_V (As := [.int (-1000001)]) (rest := []) hx hb hml hown hts hX hC (m_X13_finding 0 (vin_b rfl)) (lw_V q1404 q1406 qs56 q124 q1407) hdV_X13_finding ⟨rfl, rfl⟩ ⟨Nat.le_of_ble_eq_true rfl, Nat.le_of_ble_eq_true rfl⟩ (fx_recv (g := 0) (i := 0) (ci := 0) (q := (RX13, TX13, 24)) hX hC (min_ (by decide)) rfl rfl) hl.1 rfl (Nat.le_of_ble_eq_true rfl) ⟨Nat.zero_le _, Nat.zero_le _⟩ dX13_run_10 (fun _ H locs hC => ?_)
    refine W.eq (g2 := F0 m 13 ls [.int (-1000001)]) rfl ?_
    refine lv_i2l (v := ((-1000001) : Int32).toInt64) hx hb dX13_run_13 rfl ?_
    have hs : s_run d fd n = ((((-1000001) : Int32).toInt64, p_find fd 0) : Int64 × Row) := by first | grind [s_run] | rfl
    exact fr_l hx hb hr hlocks hX hC as (congrArg (fun z => some (Value.long z)) (t2_1 hs)) (congrArg (fun z => mct G (mpg d kp as bf sc z tp it ws sz nu mv)) (t2_2 hs)).symm dX13_run_14
set_option maxRecDepth 100000 in
theorem m_X13_soonest {l : Launch} {G : Gm} {d kp as bf sc fd tp it ws sz nu mv : Row} (hw : WF d) (k : Int32) : Cm l yX13_soonest (ws_ yX13_soonest cX13_soonest 3 (some .int)) ({ frames := 5, cells := 0, slots := 0, locals := 108 }) (mF G) [.ref (G.ad 0 0), .int k] (mct G (mpg d kp as bf sc fd tp it ws sz nu mv)) (fun u : Row × Row => some (.int ((s_soonest d fd k).1))) (fun u => mct G (mpg d kp u.1 u.2 sc ((s_soonest d fd k).2) tp it ws sz nu mv)) := by
  refine Cm.start (by decide) (Nat.le_of_ble_eq_true rfl) ?_
  intro p e s m below meth c hf hX hC ls hl
  obtain ⟨hx, hb, hr, hml, hown, hts, hlocks⟩ := hf
  have hl : lv_has ls 3 [(0, .ref (G.ad 0 0)), (1, .int k)] := hl
  have hown : s.vm.findClass "OwlEarsModel" = some m.cls := hown
  refine lv_aload_n hx hb dX13_soonest_0 rfl (lv_at hl 0 rfl) ?_
  refine lv_iload_n hx hb dX13_soonest_1 rfl (lv_at hl 1 rfl) ?_
  refine fc_V (As := [.int k]) (rest := []) hx hb hml hown hts hX hC (m_X13_isStrike k) (lw_V q1467 q1469 qs62 q124 q1470) hdV_X13_isStrike ⟨rfl, rfl⟩ ⟨Nat.le_of_ble_eq_true rfl, Nat.le_of_ble_eq_true rfl⟩ (fx_recv (g := 0) (i := 0) (ci := 0) (q := (RX13, TX13, 24)) hX hC (min_ (by decide)) rfl rfl) hl.1 rfl (Nat.le_of_ble_eq_true rfl) ⟨Nat.zero_le _, Nat.zero_le _⟩ dX13_soonest_2 (fun _ H locs hC => ?_)
  refine W.eq (g2 := F0 m 5 ls [.int (b2i (p_in k 0 (d 1 - 1)))]) rfl ?_
  refine fb_ne (tgt := 15) hx hb dX13_soonest_5 (by decide) (fun c_2 => ?_) (fun c_2 => ?_)
  · refine lv_aload_n hx hb dX13_soonest_15 rfl (lv_at hl 0 rfl) ?_
    refine fg_get (C := RX13) (T := TX13) (N := 24) (ci := 0) (g := 0) (i := 0) (v := .ref (G.ad 0 1)) hx hb hown hts hX hC in_X13 rfl (min_ (by decide)) rfl 0 (by decide) q1310 (fun _ h => h) rfl dX13_soonest_16 ?_
    refine lv_aload_n hx hb dX13_soonest_19 rfl (lv_at hl 0 rfl) ?_
    refine fg_get (C := RX13) (T := TX13) (N := 24) (ci := 0) (g := 0) (i := 0) (v := .ref (G.ad 0 3)) hx hb hown hts hX hC in_X13 rfl (min_ (by decide)) rfl 2 (by decide) q1312 (fun _ h => h) rfl dX13_soonest_20 ?_
    refine fc_S (As := [.ref (G.ad 0 1), .ref (G.ad 0 3)]) (rest := []) hx hb hml hown hts hX hC (m_X13_copyRow (g1 := 0) (i1 := 1) (g2 := 0) (i2 := 3) (t0 := 0) (ctn := mct G (mpg d kp d bf sc fd tp it ws sz nu mv)) (min_ (by decide)) rfl (min_ (by decide)) rfl rfl (by decide) (mu mp3 (fun _ _ h => h))) (lw_S q1491 q1492 q124 q1493) hdS_X13_copyRow ⟨rfl, rfl⟩ ⟨Nat.le_of_ble_eq_true rfl, Nat.le_of_ble_eq_true rfl⟩ hl.1 rfl (Nat.le_of_ble_eq_true rfl) ⟨Nat.zero_le _, Nat.zero_le _⟩ dX13_soonest_23 (fun _ H locs hC => ?_)
    refine W.eq (g2 := F0 m 26 ls []) rfl ?_
    refine lv_iconst (v := 0) hx hb dX13_soonest_26 rfl ?_
    refine lv_istore_n (lv' := [(2, .int 0), (0, .ref (G.ad 0 0)), (1, .int k)]) hx hb dX13_soonest_27 rfl hl (by decide) rfl (fun ls hl => ?_)
    have L_3 : ∀ (k3 i3 : Nat), i3 + k3 = 200 → p_fst (fun i => p_has (p_ticks i d) k) 201 0 = p_fst (fun i => p_has (p_ticks i d) k) (k3 + 1) i3 → ∀ (bf3 : Row) (H : Heap) (locs : List Loc), fC (mF G) (mct G (mpg (p_ticks i3 d) kp d bf3 sc fd tp it ws sz nu mv)) s.heap H locs → ∀ ls : Array Slot, lv_has ls 3 [(2, .int (nI i3)), (0, .ref (G.ad 0 0)), (1, .int k)] → WG p l e ({ frames := 5, cells := 0, slots := 0, locals := 108 }) s m (([.ref (G.ad 0 0), .int k] : List Value).toArray) below meth c H locs (mF G) (fun u : Row × Row => some (.int ((s_soonest d fd k).1))) (fun u => mct G (mpg d kp u.1 u.2 sc ((s_soonest d fd k).2) tp it ws sz nu mv)) (F0 m 28 ls []) := by
      intro k3
      induction k3 with
      | zero =>
        intro i3 hi3 hJ3 bf3 H locs hC ls hl
        obtain rfl : i3 = 200 := by omega
        refine lv_iload_n hx hb dX13_soonest_28 rfl (lv_at hl 0 rfl) ?_
        refine lv_sipush (v := 200) hx hb dX13_soonest_29 rfl ?_
        refine fj_ge (tgt := 53) hx hb dX13_soonest_32 (by decide) (fun _ => ?_) (fun z_4 => absurd z_4 (by decide))
        refine lv_aload_n hx hb dX13_soonest_53 rfl (lv_at hl 1 rfl) ?_
        refine lv_aload_n hx hb dX13_soonest_54 rfl (lv_at hl 1 rfl) ?_
        refine lv_aload_n hx hb dX13_soonest_55 rfl (lv_at hl 1 rfl) ?_
        refine lv_iload_n hx hb dX13_soonest_56 rfl (lv_at hl 2 rfl) ?_
        refine fc_V (As := [.int k]) (rest := [.ref (G.ad 0 0), .ref (G.ad 0 0)]) hx hb hml hown hts hX hC (m_X13_has (hw.ticks _) k (kin_of hw c_2)) (lw_V q1487 q1489 qs67 q124 q1490) hdV_X13_has ⟨rfl, rfl⟩ ⟨Nat.le_of_ble_eq_true rfl, Nat.le_of_ble_eq_true rfl⟩ (fx_recv (g := 0) (i := 0) (ci := 0) (q := (RX13, TX13, 24)) hX hC (min_ (by decide)) rfl rfl) hl.1 rfl (Nat.le_of_ble_eq_true rfl) ⟨Nat.zero_le _, Nat.zero_le _⟩ dX13_soonest_57 (fun _ H locs hC => ?_)
        refine W.eq (g2 := F0 m 60 ls [.int (b2i (p_has (p_ticks 200 d) k)), .ref (G.ad 0 0), .ref (G.ad 0 0)]) rfl ?_
        refine fb_eq (tgt := 67) hx hb dX13_soonest_60 (by decide) (fun c_6 => ?_) (fun c_6 => ?_)
        · refine lv_iconst (v := (-1)) hx hb dX13_soonest_67 rfl ?_
          refine fc_V (As := [.int (-1)]) (rest := [.ref (G.ad 0 0)]) hx hb hml hown hts hX hC (m_X13_putBack (-1)) (lw_V q1578 q1580 qs79 q124 q1581) hdV_X13_putBack ⟨rfl, rfl⟩ ⟨Nat.le_of_ble_eq_true rfl, Nat.le_of_ble_eq_true rfl⟩ (fx_recv (g := 0) (i := 0) (ci := 0) (q := (RX13, TX13, 24)) hX hC (min_ (by decide)) rfl rfl) hl.1 rfl (Nat.le_of_ble_eq_true rfl) ⟨Nat.zero_le _, Nat.zero_le _⟩ dX13_soonest_68 (fun _ H locs hC => ?_)
          refine W.eq (g2 := F0 m 71 ls [.int (-1), .ref (G.ad 0 0)]) rfl ?_
          refine fc_V (As := [.int (-1)]) (rest := []) hx hb hml hown hts hX hC (m_X13_orNone (-1)) (lw_V q1594 q1596 qs81 q124 q1597) hdV_X13_orNone ⟨rfl, rfl⟩ ⟨Nat.le_of_ble_eq_true rfl, Nat.le_of_ble_eq_true rfl⟩ (fx_recv (g := 0) (i := 0) (ci := 0) (q := (RX13, TX13, 24)) hX hC (min_ (by decide)) rfl rfl) hl.1 rfl (Nat.le_of_ble_eq_true rfl) ⟨Nat.zero_le _, Nat.zero_le _⟩ dX13_soonest_71 (fun _ H locs hC => ?_)
          refine W.eq (g2 := F0 m 74 ls [.int (if (-1) < 0 then -1000004 else (-1))]) rfl ?_
          have hs : s_soonest d fd k = ((if (-1) < 0 then -1000004 else (-1), if (-1) < 0 then p_find fd 3 else fd) : Int32 × Row) := by have hz : p_fst (fun i => p_has (p_ticks i d) k) 201 0 = -1 := hJ3.trans ((p_fst_f c_6).trans rfl); rw [s_soonest, if_pos c_2]; unfold p_soon; rw [hz]; simp [p_none]
          exact fr_i hx hb hr hlocks hX hC ⟨d, p_ticks 200 d⟩ (congrArg (fun z => some (Value.int z)) (t2_1 hs)) (congrArg (fun z => mct G (mpg d kp d (p_ticks 200 d) sc z tp it ws sz nu mv)) (t2_2 hs)).symm dX13_soonest_74
        · refine lv_iload_n hx hb dX13_soonest_63 rfl (lv_at hl 0 rfl) ?_
          refine lv_goto (tgt := 68) hx hb dX13_soonest_64 (by decide) ?_
          refine fc_V (As := [.int (nI 200)]) (rest := [.ref (G.ad 0 0)]) hx hb hml hown hts hX hC (m_X13_putBack (nI 200)) (lw_V q1578 q1580 qs79 q124 q1581) hdV_X13_putBack ⟨rfl, rfl⟩ ⟨Nat.le_of_ble_eq_true rfl, Nat.le_of_ble_eq_true rfl⟩ (fx_recv (g := 0) (i := 0) (ci := 0) (q := (RX13, TX13, 24)) hX hC (min_ (by decide)) rfl rfl) hl.1 rfl (Nat.le_of_ble_eq_true rfl) ⟨Nat.zero_le _, Nat.zero_le _⟩ dX13_soonest_68 (fun _ H locs hC => ?_)
          refine W.eq (g2 := F0 m 71 ls [.int (nI 200), .ref (G.ad 0 0)]) rfl ?_
          refine fc_V (As := [.int (nI 200)]) (rest := []) hx hb hml hown hts hX hC (m_X13_orNone (nI 200)) (lw_V q1594 q1596 qs81 q124 q1597) hdV_X13_orNone ⟨rfl, rfl⟩ ⟨Nat.le_of_ble_eq_true rfl, Nat.le_of_ble_eq_true rfl⟩ (fx_recv (g := 0) (i := 0) (ci := 0) (q := (RX13, TX13, 24)) hX hC (min_ (by decide)) rfl rfl) hl.1 rfl (Nat.le_of_ble_eq_true rfl) ⟨Nat.zero_le _, Nat.zero_le _⟩ dX13_soonest_71 (fun _ H locs hC => ?_)
          refine W.eq (g2 := F0 m 74 ls [.int (if (nI 200) < 0 then -1000004 else (nI 200))]) rfl ?_
          have hs : s_soonest d fd k = ((if (nI 200) < 0 then -1000004 else (nI 200), if (nI 200) < 0 then p_find fd 3 else fd) : Int32 × Row) := by have hz := hJ3.trans (p_fst_t c_6); rw [s_soonest, if_pos c_2]; unfold p_soon; rw [hz]; have hq : ¬ nI 200 = -1 := nI_ne1 (by omega); simp [p_none, hq, nI_pos (n := 200) (by omega)]
          exact fr_i hx hb hr hlocks hX hC ⟨d, p_ticks 200 d⟩ (congrArg (fun z => some (Value.int z)) (t2_1 hs)) (congrArg (fun z => mct G (mpg d kp d (p_ticks 200 d) sc z tp it ws sz nu mv)) (t2_2 hs)).symm dX13_soonest_74
      | succ k3 ih3 =>
        intro i3 hi3 hJ3 bf3 H locs hC ls hl
        refine lv_iload_n hx hb dX13_soonest_28 rfl (lv_at hl 0 rfl) ?_
        refine lv_sipush (v := 200) hx hb dX13_soonest_29 rfl ?_
        refine fj_ge (tgt := 53) hx hb dX13_soonest_32 (by decide) (fun z_11 => absurd (nI_lt (a := i3) (b := 200) (by omega) (by decide)) z_11) (fun _ => ?_)
        refine lv_aload_n hx hb dX13_soonest_35 rfl (lv_at hl 1 rfl) ?_
        refine lv_iload_n hx hb dX13_soonest_36 rfl (lv_at hl 2 rfl) ?_
        refine fc_V (As := [.int k]) (rest := []) hx hb hml hown hts hX hC (m_X13_has (hw.ticks _) k (kin_of hw c_2)) (lw_V q1487 q1489 qs67 q124 q1490) hdV_X13_has ⟨rfl, rfl⟩ ⟨Nat.le_of_ble_eq_true rfl, Nat.le_of_ble_eq_true rfl⟩ (fx_recv (g := 0) (i := 0) (ci := 0) (q := (RX13, TX13, 24)) hX hC (min_ (by decide)) rfl rfl) hl.1 rfl (Nat.le_of_ble_eq_true rfl) ⟨Nat.zero_le _, Nat.zero_le _⟩ dX13_soonest_37 (fun _ H locs hC => ?_)
        refine W.eq (g2 := F0 m 40 ls [.int (b2i (p_has (p_ticks i3 d) k))]) rfl ?_
        refine fb_ne (tgt := 53) hx hb dX13_soonest_40 (by decide) (fun c_13 => ?_) (fun c_13 => ?_)
        · refine lv_aload_n hx hb dX13_soonest_53 rfl (lv_at hl 1 rfl) ?_
          refine lv_aload_n hx hb dX13_soonest_54 rfl (lv_at hl 1 rfl) ?_
          refine lv_aload_n hx hb dX13_soonest_55 rfl (lv_at hl 1 rfl) ?_
          refine lv_iload_n hx hb dX13_soonest_56 rfl (lv_at hl 2 rfl) ?_
          refine fc_V (As := [.int k]) (rest := [.ref (G.ad 0 0), .ref (G.ad 0 0)]) hx hb hml hown hts hX hC (m_X13_has (hw.ticks _) k (kin_of hw c_2)) (lw_V q1487 q1489 qs67 q124 q1490) hdV_X13_has ⟨rfl, rfl⟩ ⟨Nat.le_of_ble_eq_true rfl, Nat.le_of_ble_eq_true rfl⟩ (fx_recv (g := 0) (i := 0) (ci := 0) (q := (RX13, TX13, 24)) hX hC (min_ (by decide)) rfl rfl) hl.1 rfl (Nat.le_of_ble_eq_true rfl) ⟨Nat.zero_le _, Nat.zero_le _⟩ dX13_soonest_57 (fun _ H locs hC => ?_)
          refine W.eq (g2 := F0 m 60 ls [.int (b2i (p_has (p_ticks i3 d) k)), .ref (G.ad 0 0), .ref (G.ad 0 0)]) rfl ?_
          refine fb_eq (tgt := 67) hx hb dX13_soonest_60 (by decide) (fun z_15 => absurd c_13 z_15) (fun _ => ?_)
          refine lv_iload_n hx hb dX13_soonest_63 rfl (lv_at hl 0 rfl) ?_
          refine lv_goto (tgt := 68) hx hb dX13_soonest_64 (by decide) ?_
          refine fc_V (As := [.int (nI i3)]) (rest := [.ref (G.ad 0 0)]) hx hb hml hown hts hX hC (m_X13_putBack (nI i3)) (lw_V q1578 q1580 qs79 q124 q1581) hdV_X13_putBack ⟨rfl, rfl⟩ ⟨Nat.le_of_ble_eq_true rfl, Nat.le_of_ble_eq_true rfl⟩ (fx_recv (g := 0) (i := 0) (ci := 0) (q := (RX13, TX13, 24)) hX hC (min_ (by decide)) rfl rfl) hl.1 rfl (Nat.le_of_ble_eq_true rfl) ⟨Nat.zero_le _, Nat.zero_le _⟩ dX13_soonest_68 (fun _ H locs hC => ?_)
          refine W.eq (g2 := F0 m 71 ls [.int (nI i3), .ref (G.ad 0 0)]) rfl ?_
          refine fc_V (As := [.int (nI i3)]) (rest := []) hx hb hml hown hts hX hC (m_X13_orNone (nI i3)) (lw_V q1594 q1596 qs81 q124 q1597) hdV_X13_orNone ⟨rfl, rfl⟩ ⟨Nat.le_of_ble_eq_true rfl, Nat.le_of_ble_eq_true rfl⟩ (fx_recv (g := 0) (i := 0) (ci := 0) (q := (RX13, TX13, 24)) hX hC (min_ (by decide)) rfl rfl) hl.1 rfl (Nat.le_of_ble_eq_true rfl) ⟨Nat.zero_le _, Nat.zero_le _⟩ dX13_soonest_71 (fun _ H locs hC => ?_)
          refine W.eq (g2 := F0 m 74 ls [.int (if (nI i3) < 0 then -1000004 else (nI i3))]) rfl ?_
          have hs : s_soonest d fd k = ((if (nI i3) < 0 then -1000004 else (nI i3), if (nI i3) < 0 then p_find fd 3 else fd) : Int32 × Row) := by have hz := hJ3.trans (p_fst_t c_13); rw [s_soonest, if_pos c_2]; unfold p_soon; rw [hz]; have hq : ¬ nI i3 = -1 := nI_ne1 (by omega); simp [p_none, hq, nI_pos (n := i3) (by omega)]
          exact fr_i hx hb hr hlocks hX hC ⟨d, p_ticks i3 d⟩ (congrArg (fun z => some (Value.int z)) (t2_1 hs)) (congrArg (fun z => mct G (mpg d kp d (p_ticks i3 d) sc z tp it ws sz nu mv)) (t2_2 hs)).symm dX13_soonest_74
        · refine lv_aload_n hx hb dX13_soonest_43 rfl (lv_at hl 1 rfl) ?_
          refine fc_V (As := []) (rest := []) hx hb hml hown hts hX hC (m_X13_tick (hw.ticks _)) (lw_V q1498 q1500 qs69 q124 q1501) hdV_X13_tick ⟨rfl, rfl⟩ ⟨Nat.le_of_ble_eq_true rfl, Nat.le_of_ble_eq_true rfl⟩ (fx_recv (g := 0) (i := 0) (ci := 0) (q := (RX13, TX13, 24)) hX hC (min_ (by decide)) rfl rfl) hl.1 rfl (Nat.le_of_ble_eq_true rfl) ⟨Nat.zero_le _, Nat.zero_le _⟩ dX13_soonest_44 (fun _ H locs hC => ?_)
          refine W.eq (g2 := F0 m 47 ls []) rfl ?_
          refine lv_iinc (v := nI (i3 + 1)) (lv' := [(2, .int (nI (i3 + 1))), (0, .ref (G.ad 0 0)), (1, .int k)]) hx hb dX13_soonest_47 hl (k := 0) rfl (nI_1 _) (by decide) rfl (fun ls hl => ?_)
          refine lv_goto (tgt := 28) hx hb dX13_soonest_50 (by decide) ?_
          exact ih3 (i3 + 1) (by omega) (hJ3.trans (p_fst_f c_13)) _ _ _ hC ls (lv_sub hl [0, 1, 2] rfl)
    exact L_3 200 0 rfl rfl _ _ _ hC ls (lv_sub hl [0, 1, 2] rfl)
  · refine lv_aload_n hx hb dX13_soonest_8 rfl (lv_at hl 0 rfl) ?_
    refine lv_ldc (v := (-1000001)) hx hb hown (hts _ q1403) dX13_soonest_9 ?_
    refine fc_V (As := [.int (-1000001)]) (rest := []) hx hb hml hown hts hX hC (m_X13_finding 0 (vin_b rfl)) (lw_V q1404 q1406 qs56 q124 q1407) hdV_X13_finding ⟨rfl, rfl⟩ ⟨Nat.le_of_ble_eq_true rfl, Nat.le_of_ble_eq_true rfl⟩ (fx_recv (g := 0) (i := 0) (ci := 0) (q := (RX13, TX13, 24)) hX hC (min_ (by decide)) rfl rfl) hl.1 rfl (Nat.le_of_ble_eq_true rfl) ⟨Nat.zero_le _, Nat.zero_le _⟩ dX13_soonest_11 (fun _ H locs hC => ?_)
    refine W.eq (g2 := F0 m 14 ls [.int (-1000001)]) rfl ?_
    have hs : s_soonest d fd k = (((-1000001), p_find fd 0) : Int32 × Row) := by rw [s_soonest, if_neg c_2]
    exact fr_i hx hb hr hlocks hX hC ⟨as, bf⟩ (congrArg (fun z => some (Value.int z)) (t2_1 hs)) (congrArg (fun z => mct G (mpg d kp as bf sc z tp it ws sz nu mv)) (t2_2 hs)).symm dX13_soonest_14
set_option maxRecDepth 100000 in
theorem m_X13_chancesIn {l : Launch} {G : Gm} {d kp as bf sc fd tp it ws sz nu mv : Row} (hw : WF d) (k n : Int32) (hk : vp_in k 8) : Cm l yX13_chancesIn (ws_ yX13_chancesIn cX13_chancesIn 5 (some .int)) ({ frames := 5, cells := 0, slots := 0, locals := 108 }) (mF G) [.ref (G.ad 0 0), .int k, .int n] (mct G (mpg d kp as bf sc fd tp it ws sz nu mv)) (fun u : Row => some (.int (p_chances d k (ix n)))) (fun u => mct G (mpg d kp d u sc fd tp it ws sz nu mv)) := by
  refine Cm.start (by decide) (Nat.le_of_ble_eq_true rfl) ?_
  intro p e s m below meth c hf hX hC ls hl
  obtain ⟨hx, hb, hr, hml, hown, hts, hlocks⟩ := hf
  have hl : lv_has ls 5 [(0, .ref (G.ad 0 0)), (1, .int k), (2, .int n)] := hl
  have hown : s.vm.findClass "OwlEarsModel" = some m.cls := hown
  refine lv_aload_n hx hb dX13_chancesIn_0 rfl (lv_at hl 0 rfl) ?_
  refine fg_get (C := RX13) (T := TX13) (N := 24) (ci := 0) (g := 0) (i := 0) (v := .ref (G.ad 0 1)) hx hb hown hts hX hC in_X13 rfl (min_ (by decide)) rfl 0 (by decide) q1310 (fun _ h => h) rfl dX13_chancesIn_1 ?_
  refine lv_aload_n hx hb dX13_chancesIn_4 rfl (lv_at hl 0 rfl) ?_
  refine fg_get (C := RX13) (T := TX13) (N := 24) (ci := 0) (g := 0) (i := 0) (v := .ref (G.ad 0 3)) hx hb hown hts hX hC in_X13 rfl (min_ (by decide)) rfl 2 (by decide) q1312 (fun _ h => h) rfl dX13_chancesIn_5 ?_
  refine fc_S (As := [.ref (G.ad 0 1), .ref (G.ad 0 3)]) (rest := []) hx hb hml hown hts hX hC (m_X13_copyRow (g1 := 0) (i1 := 1) (g2 := 0) (i2 := 3) (t0 := 0) (ctn := mct G (mpg d kp d bf sc fd tp it ws sz nu mv)) (min_ (by decide)) rfl (min_ (by decide)) rfl rfl (by decide) (mu mp3 (fun _ _ h => h))) (lw_S q1491 q1492 q124 q1493) hdS_X13_copyRow ⟨rfl, rfl⟩ ⟨Nat.le_of_ble_eq_true rfl, Nat.le_of_ble_eq_true rfl⟩ hl.1 rfl (Nat.le_of_ble_eq_true rfl) ⟨Nat.zero_le _, Nat.zero_le _⟩ dX13_chancesIn_8 (fun _ H locs hC => ?_)
  refine W.eq (g2 := F0 m 11 ls []) rfl ?_
  refine lv_iconst (v := 0) hx hb dX13_chancesIn_11 rfl ?_
  refine lv_istore_n (lv' := [(3, .int 0), (0, .ref (G.ad 0 0)), (1, .int k), (2, .int n)]) hx hb dX13_chancesIn_12 rfl hl (by decide) rfl (fun ls hl => ?_)
  refine lv_iconst (v := 0) hx hb dX13_chancesIn_13 rfl ?_
  refine lv_istore (lv' := [(4, .int 0), (3, .int 0), (0, .ref (G.ad 0 0)), (1, .int k), (2, .int n)]) hx hb dX13_chancesIn_14 hl (by decide) rfl (fun ls hl => ?_)
  have L_1 : ∀ (k1 i1 : Nat), i1 + k1 = ix n → ∀ (bf1 : Row) (H : Heap) (locs : List Loc), fC (mF G) (mct G (mpg (p_ticks i1 d) kp d bf1 sc fd tp it ws sz nu mv)) s.heap H locs → ∀ ls : Array Slot, lv_has ls 5 [(0, .ref (G.ad 0 0)), (1, .int k), (2, .int n), (3, .int (p_chances d k i1)), (4, .int (nI i1))] → WG p l e ({ frames := 5, cells := 0, slots := 0, locals := 108 }) s m (([.ref (G.ad 0 0), .int k, .int n] : List Value).toArray) below meth c H locs (mF G) (fun u : Row => some (.int (p_chances d k (ix n)))) (fun u => mct G (mpg d kp d u sc fd tp it ws sz nu mv)) (F0 m 16 ls []) := by
    intro k1
    induction k1 with
    | zero =>
      intro i1 hi1 bf1 H locs hC ls hl
      obtain rfl : i1 = ix n := by omega
      refine lv_iload hx hb dX13_chancesIn_16 (lv_at hl 4 rfl) ?_
      refine lv_iload_n hx hb dX13_chancesIn_18 rfl (lv_at hl 2 rfl) ?_
      refine fj_ge (tgt := 48) hx hb dX13_chancesIn_19 (by decide) (fun _ => ?_) (fun z_2 => absurd z_2 (nlt_ix (n := n)))
      refine lv_aload_n hx hb dX13_chancesIn_48 rfl (lv_at hl 0 rfl) ?_
      refine lv_iload_n hx hb dX13_chancesIn_49 rfl (lv_at hl 3 rfl) ?_
      refine fc_V (As := [.int (p_chances d k (ix n))]) (rest := []) hx hb hml hown hts hX hC (m_X13_putBack (p_chances d k (ix n))) (lw_V q1578 q1580 qs79 q124 q1581) hdV_X13_putBack ⟨rfl, rfl⟩ ⟨Nat.le_of_ble_eq_true rfl, Nat.le_of_ble_eq_true rfl⟩ (fx_recv (g := 0) (i := 0) (ci := 0) (q := (RX13, TX13, 24)) hX hC (min_ (by decide)) rfl rfl) hl.1 rfl (Nat.le_of_ble_eq_true rfl) ⟨Nat.zero_le _, Nat.zero_le _⟩ dX13_chancesIn_50 (fun _ H locs hC => ?_)
      refine W.eq (g2 := F0 m 53 ls [.int (p_chances d k (ix n))]) rfl ?_
      exact fr_i hx hb hr hlocks hX hC bf1 rfl rfl dX13_chancesIn_53
    | succ k1 ih1 =>
      intro i1 hi1 bf1 H locs hC ls hl
      have hz1 : i1 < 2147483648 := by have := ix_lt n; omega
      refine lv_iload hx hb dX13_chancesIn_16 (lv_at hl 4 rfl) ?_
      refine lv_iload_n hx hb dX13_chancesIn_18 rfl (lv_at hl 2 rfl) ?_
      refine fj_ge (tgt := 48) hx hb dX13_chancesIn_19 (by decide) (fun z_4 => absurd (lt_ix (n := n) (show i1 < ix n by omega)) z_4) (fun _ => ?_)
      refine lv_iload_n hx hb dX13_chancesIn_22 rfl (lv_at hl 3 rfl) ?_
      refine lv_aload_n hx hb dX13_chancesIn_23 rfl (lv_at hl 0 rfl) ?_
      refine lv_iload_n hx hb dX13_chancesIn_24 rfl (lv_at hl 1 rfl) ?_
      refine fc_V (As := [.int k]) (rest := [.int (p_chances d k i1)]) hx hb hml hown hts hX hC (m_X13_has (hw.ticks _) k hk) (lw_V q1487 q1489 qs67 q124 q1490) hdV_X13_has ⟨rfl, rfl⟩ ⟨Nat.le_of_ble_eq_true rfl, Nat.le_of_ble_eq_true rfl⟩ (fx_recv (g := 0) (i := 0) (ci := 0) (q := (RX13, TX13, 24)) hX hC (min_ (by decide)) rfl rfl) hl.1 rfl (Nat.le_of_ble_eq_true rfl) ⟨Nat.zero_le _, Nat.zero_le _⟩ dX13_chancesIn_25 (fun _ H locs hC => ?_)
      refine W.eq (g2 := F0 m 28 ls [.int (b2i (p_has (p_ticks i1 d) k)), .int (p_chances d k i1)]) rfl ?_
      refine fw_joinb (C := p_has (p_ticks i1 d) k) (pcj := 36) (ls := ls) (rest := [.int (p_chances d k i1)]) (fun ja jb => ?_) ?_
      · refine fb_eq (tgt := 35) hx hb dX13_chancesIn_28 (by decide) (fun c_6 => ?_) (fun c_6 => ?_)
        · refine lv_iconst (v := 0) hx hb dX13_chancesIn_35 rfl ?_
          exact jb c_6
        · refine lv_iconst (v := 1) hx hb dX13_chancesIn_31 rfl ?_
          refine lv_goto (tgt := 36) hx hb dX13_chancesIn_32 (by decide) ?_
          exact ja c_6
      refine lv_iadd hx hb dX13_chancesIn_36 ?_
      refine lv_istore_n (lv' := [(3, .int ((p_chances d k i1) + (b2i (p_has (p_ticks i1 d) k)))), (0, .ref (G.ad 0 0)), (1, .int k), (2, .int n), (4, .int (nI i1))]) hx hb dX13_chancesIn_37 rfl hl (by decide) rfl (fun ls hl => ?_)
      refine lv_aload_n hx hb dX13_chancesIn_38 rfl (lv_at hl 1 rfl) ?_
      refine fc_V (As := []) (rest := []) hx hb hml hown hts hX hC (m_X13_tick (hw.ticks _)) (lw_V q1498 q1500 qs69 q124 q1501) hdV_X13_tick ⟨rfl, rfl⟩ ⟨Nat.le_of_ble_eq_true rfl, Nat.le_of_ble_eq_true rfl⟩ (fx_recv (g := 0) (i := 0) (ci := 0) (q := (RX13, TX13, 24)) hX hC (min_ (by decide)) rfl rfl) hl.1 rfl (Nat.le_of_ble_eq_true rfl) ⟨Nat.zero_le _, Nat.zero_le _⟩ dX13_chancesIn_39 (fun _ H locs hC => ?_)
      refine W.eq (g2 := F0 m 42 ls []) rfl ?_
      refine lv_iinc (v := nI (i1 + 1)) (lv' := [(4, .int (nI (i1 + 1))), (3, .int ((p_chances d k i1) + (b2i (p_has (p_ticks i1 d) k)))), (0, .ref (G.ad 0 0)), (1, .int k), (2, .int n)]) hx hb dX13_chancesIn_42 hl (k := 4) rfl (nI_1 _) (by decide) rfl (fun ls hl => ?_)
      refine lv_goto (tgt := 16) hx hb dX13_chancesIn_45 (by decide) ?_
      exact ih1 (i1 + 1) (by omega) _ _ _ hC ls (lv_sub hl [2, 3, 4, 1, 0] rfl)
  exact L_1 (ix n) 0 (by omega) _ _ _ hC ls (lv_sub hl [2, 3, 4, 1, 0] rfl)
set_option maxRecDepth 100000 in
theorem m_X13_chances {l : Launch} {G : Gm} {d kp as bf sc fd tp it ws sz nu mv : Row} (hw : WF d) (k n : Int32) : Cm l yX13_chances (ws_ yX13_chances cX13_chances 3 (some .int)) ({ frames := 6, cells := 0, slots := 0, locals := 132 }) (mF G) [.ref (G.ad 0 0), .int k, .int n] (mct G (mpg d kp as bf sc fd tp it ws sz nu mv)) (fun u : Row × Row => some (.int ((s_chances d fd k n).1))) (fun u => mct G (mpg d kp u.1 u.2 sc ((s_chances d fd k n).2) tp it ws sz nu mv)) := by
  refine Cm.start (by decide) (Nat.le_of_ble_eq_true rfl) ?_
  intro p e s m below meth c hf hX hC ls hl
  obtain ⟨hx, hb, hr, hml, hown, hts, hlocks⟩ := hf
  have hl : lv_has ls 3 [(0, .ref (G.ad 0 0)), (1, .int k), (2, .int n)] := hl
  have hown : s.vm.findClass "OwlEarsModel" = some m.cls := hown
  refine lv_aload_n hx hb dX13_chances_0 rfl (lv_at hl 0 rfl) ?_
  refine lv_iload_n hx hb dX13_chances_1 rfl (lv_at hl 1 rfl) ?_
  refine fc_V (As := [.int k]) (rest := []) hx hb hml hown hts hX hC (m_X13_isStrike k) (lw_V q1467 q1469 qs62 q124 q1470) hdV_X13_isStrike ⟨rfl, rfl⟩ ⟨Nat.le_of_ble_eq_true rfl, Nat.le_of_ble_eq_true rfl⟩ (fx_recv (g := 0) (i := 0) (ci := 0) (q := (RX13, TX13, 24)) hX hC (min_ (by decide)) rfl rfl) hl.1 rfl (Nat.le_of_ble_eq_true rfl) ⟨Nat.zero_le _, Nat.zero_le _⟩ dX13_chances_2 (fun _ H locs hC => ?_)
  refine W.eq (g2 := F0 m 5 ls [.int (b2i (p_in k 0 (d 1 - 1)))]) rfl ?_
  refine fb_eq (tgt := 24) hx hb dX13_chances_5 (by decide) (fun c_2 => ?_) (fun c_2 => ?_)
  · refine lv_aload_n hx hb dX13_chances_24 rfl (lv_at hl 0 rfl) ?_
    refine lv_ldc (v := (-1000001)) hx hb hown (hts _ q1403) dX13_chances_25 ?_
    refine fc_V (As := [.int (-1000001)]) (rest := []) hx hb hml hown hts hX hC (m_X13_finding 0 (vin_b rfl)) (lw_V q1404 q1406 qs56 q124 q1407) hdV_X13_finding ⟨rfl, rfl⟩ ⟨Nat.le_of_ble_eq_true rfl, Nat.le_of_ble_eq_true rfl⟩ (fx_recv (g := 0) (i := 0) (ci := 0) (q := (RX13, TX13, 24)) hX hC (min_ (by decide)) rfl rfl) hl.1 rfl (Nat.le_of_ble_eq_true rfl) ⟨Nat.zero_le _, Nat.zero_le _⟩ dX13_chances_27 (fun _ H locs hC => ?_)
    refine W.eq (g2 := F0 m 30 ls [.int (-1000001)]) rfl ?_
    have hs : s_chances d fd k n = (((-1000001), p_find fd 0) : Int32 × Row) := by first | grind [s_chances] | rfl
    exact fr_i hx hb hr hlocks hX hC ⟨as, bf⟩ (congrArg (fun z => some (Value.int z)) (t2_1 hs)) (congrArg (fun z => mct G (mpg d kp as bf sc z tp it ws sz nu mv)) (t2_2 hs)).symm dX13_chances_30
  · refine lv_iload_n hx hb dX13_chances_8 rfl (lv_at hl 2 rfl) ?_
    refine fc_S (As := [.int n]) (rest := []) hx hb hml hown hts hX hC (m_X13_isAheadBy n) (lw_S q1575 q1576 q124 q1577) hdS_X13_isAheadBy ⟨rfl, rfl⟩ ⟨Nat.le_of_ble_eq_true rfl, Nat.le_of_ble_eq_true rfl⟩ hl.1 rfl (Nat.le_of_ble_eq_true rfl) ⟨Nat.zero_le _, Nat.zero_le _⟩ dX13_chances_9 (fun _ H locs hC => ?_)
    refine W.eq (g2 := F0 m 12 ls [.int (b2i (p_in n 0 200))]) rfl ?_
    refine fb_eq (tgt := 24) hx hb dX13_chances_12 (by decide) (fun c_4 => ?_) (fun c_4 => ?_)
    · refine lv_aload_n hx hb dX13_chances_24 rfl (lv_at hl 0 rfl) ?_
      refine lv_ldc (v := (-1000001)) hx hb hown (hts _ q1403) dX13_chances_25 ?_
      refine fc_V (As := [.int (-1000001)]) (rest := []) hx hb hml hown hts hX hC (m_X13_finding 0 (vin_b rfl)) (lw_V q1404 q1406 qs56 q124 q1407) hdV_X13_finding ⟨rfl, rfl⟩ ⟨Nat.le_of_ble_eq_true rfl, Nat.le_of_ble_eq_true rfl⟩ (fx_recv (g := 0) (i := 0) (ci := 0) (q := (RX13, TX13, 24)) hX hC (min_ (by decide)) rfl rfl) hl.1 rfl (Nat.le_of_ble_eq_true rfl) ⟨Nat.zero_le _, Nat.zero_le _⟩ dX13_chances_27 (fun _ H locs hC => ?_)
      refine W.eq (g2 := F0 m 30 ls [.int (-1000001)]) rfl ?_
      have hs : s_chances d fd k n = (((-1000001), p_find fd 0) : Int32 × Row) := by first | grind [s_chances] | rfl
      exact fr_i hx hb hr hlocks hX hC ⟨as, bf⟩ (congrArg (fun z => some (Value.int z)) (t2_1 hs)) (congrArg (fun z => mct G (mpg d kp as bf sc z tp it ws sz nu mv)) (t2_2 hs)).symm dX13_chances_30
    · refine lv_aload_n hx hb dX13_chances_15 rfl (lv_at hl 0 rfl) ?_
      refine lv_iload_n hx hb dX13_chances_16 rfl (lv_at hl 1 rfl) ?_
      refine lv_iload_n hx hb dX13_chances_17 rfl (lv_at hl 2 rfl) ?_
      refine fc_V (As := [.int k, .int n]) (rest := []) hx hb hml hown hts hX hC (m_X13_chancesIn hw k n (kin_of hw c_2)) (lw_V q1614 q1616 qs82 q124 q1617) hdV_X13_chancesIn ⟨rfl, rfl⟩ ⟨Nat.le_of_ble_eq_true rfl, Nat.le_of_ble_eq_true rfl⟩ (fx_recv (g := 0) (i := 0) (ci := 0) (q := (RX13, TX13, 24)) hX hC (min_ (by decide)) rfl rfl) hl.1 rfl (Nat.le_of_ble_eq_true rfl) ⟨Nat.zero_le _, Nat.zero_le _⟩ dX13_chances_18 (fun u_5 H locs hC => ?_)
      refine W.eq (g2 := F0 m 21 ls [.int (p_chances d k (ix n))]) rfl ?_
      refine lv_goto (tgt := 30) hx hb dX13_chances_21 (by decide) ?_
      have hs : s_chances d fd k n = ((p_chances d k (ix n), fd) : Int32 × Row) := by first | grind [s_chances] | rfl
      exact fr_i hx hb hr hlocks hX hC ⟨d, u_5⟩ (congrArg (fun z => some (Value.int z)) (t2_1 hs)) (congrArg (fun z => mct G (mpg d kp d u_5 sc z tp it ws sz nu mv)) (t2_2 hs)).symm dX13_chances_30
