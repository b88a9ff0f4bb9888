theorem hdS_X13_isRhythm : yX13_isRhythm.cls ≠ "java/lang/invoke/MethodHandle" ∧ yX13_isRhythm.cls ≠ "java/lang/invoke/VarHandle" ∧ (parseMethodDescriptor yX13_isRhythm.desc).map (fun d => d.parameters.length) = some 2 := by decide +kernel
theorem hdV_X13_quietest : yX13_quietest.cls = RX13 ∧ yX13_quietest.cls ≠ "java/lang/invoke/MethodHandle" ∧ yX13_quietest.cls ≠ "java/lang/invoke/VarHandle" ∧ (parseMethodDescriptor yX13_quietest.desc).map (fun d => d.parameters.length) = some 2 := by decide +kernel
theorem hdV_X13_drawn : yX13_drawn.cls = RX13 ∧ yX13_drawn.cls ≠ "java/lang/invoke/MethodHandle" ∧ yX13_drawn.cls ≠ "java/lang/invoke/VarHandle" ∧ (parseMethodDescriptor yX13_drawn.desc).map (fun d => d.parameters.length) = some 0 := by decide +kernel
set_option maxRecDepth 100000 in
theorem m_X13_quietest {l : Launch} {G : Gm} {d kp as bf sc fd tp it ws sz nu mv : Row} (hw : WF d) (n k : Int32) : Cm l yX13_quietest (ws_ yX13_quietest cX13_quietest 10 (some .int)) ({ frames := 5, cells := 0, slots := 0, locals := 104 }) (mF G) [.ref (G.ad 0 0), .int n, .int k] (mct G (mpg d kp as bf sc fd tp it ws sz nu mv)) (fun u : Row × Int32 => some (.int ((p_qm d n k 90).1))) (fun u => mct G (mpg d kp u.1 bf (upd (upd sc 1 u.2) 2 ((p_qm d n k 90).2)) fd tp it ws sz nu mv)) := by
  refine Cm.start (by decide) (Nat.le_of_ble_eq_true rfl) ?_
  intro p e s m below meth c hf hX hC ls hl
  obtain ⟨hx, hb, hr, hml, hown, hts, hlocks⟩ := hf
  have hl : lv_has ls 10 [(0, .ref (G.ad 0 0)), (1, .int n), (2, .int k)] := hl
  have hown : s.vm.findClass "OwlEarsModel" = some m.cls := hown
  refine lv_aload_n hx hb dX13_quietest_0 rfl (lv_at hl 0 rfl) ?_
  refine fg_get (C := RX13) (T := TX13) (N := 24) (ci := 0) (g := 0) (i := 0) (v := .ref (G.ad 0 1)) hx hb hown hts hX hC in_X13 rfl (min_ (by decide)) rfl 0 (by decide) q1310 (fun _ h => h) rfl dX13_quietest_1 ?_
  refine lv_iconst (v := 5) hx hb dX13_quietest_4 rfl ?_
  refine fg_iald (g := 0) (i := 1) (t0 := 0) (v := d 5) hx hb hX hC (min_ (by decide)) rfl rfl (vin_b rfl) rfl dX13_quietest_5 ?_
  refine lv_istore_n (lv' := [(3, .int (d 5)), (0, .ref (G.ad 0 0)), (1, .int n), (2, .int k)]) hx hb dX13_quietest_6 rfl hl (by decide) rfl (fun ls hl => ?_)
  refine lv_aload_n hx hb dX13_quietest_7 rfl (lv_at hl 1 rfl) ?_
  refine fg_get (C := RX13) (T := TX13) (N := 24) (ci := 0) (g := 0) (i := 0) (v := .ref (G.ad 0 1)) hx hb hown hts hX hC in_X13 rfl (min_ (by decide)) rfl 0 (by decide) q1310 (fun _ h => h) rfl dX13_quietest_8 ?_
  refine lv_bipush (v := 6) hx hb dX13_quietest_11 rfl ?_
  refine fg_iald (g := 0) (i := 1) (t0 := 0) (v := d 6) hx hb hX hC (min_ (by decide)) rfl rfl (vin_b rfl) rfl dX13_quietest_13 ?_
  refine lv_istore (lv' := [(4, .int (d 6)), (3, .int (d 5)), (0, .ref (G.ad 0 0)), (1, .int n), (2, .int k)]) hx hb dX13_quietest_14 hl (by decide) rfl (fun ls hl => ?_)
  refine lv_aload_n hx hb dX13_quietest_16 rfl (lv_at hl 2 rfl) ?_
  refine lv_bipush (v := 7) hx hb dX13_quietest_17 rfl ?_
  refine lv_iconst (v := 0) hx hb dX13_quietest_19 rfl ?_
  refine fc_V (As := [.int 7, .int 0]) (rest := []) hx hb hml hown hts hX hC (m_X13_become 7 0 7 rfl (vin_b rfl)) (lw_V q1399 q1401 qs55 q124 q1402) hdV_X13_become ⟨rfl, rfl⟩ ⟨Nat.le_of_ble_eq_true rfl, Nat.le_of_ble_eq_true rfl⟩ (fx_recv (g := 0) (i := 0) (ci := 0) (q := (RX13, TX13, 24)) hX hC (min_ (by decide)) rfl rfl) hl.1 rfl (Nat.le_of_ble_eq_true rfl) ⟨Nat.zero_le _, Nat.zero_le _⟩ dX13_quietest_20 (fun _ H locs hC => ?_)
  refine W.eq (g2 := F0 m 23 ls [.int (d 7)]) rfl ?_
  refine lv_istore (lv' := [(5, .int (d 7)), (4, .int (d 6)), (3, .int (d 5)), (0, .ref (G.ad 0 0)), (1, .int n), (2, .int k)]) hx hb dX13_quietest_23 hl (by decide) rfl (fun ls hl => ?_)
  refine lv_iconst (v := (-1)) hx hb dX13_quietest_25 rfl ?_
  refine lv_istore (lv' := [(6, .int (-1)), (5, .int (d 7)), (4, .int (d 6)), (3, .int (d 5)), (0, .ref (G.ad 0 0)), (1, .int n), (2, .int k)]) hx hb dX13_quietest_26 hl (by decide) rfl (fun ls hl => ?_)
  refine lv_aload_n hx hb dX13_quietest_28 rfl (lv_at hl 4 rfl) ?_
  refine lv_iload_n hx hb dX13_quietest_29 rfl (lv_at hl 5 rfl) ?_
  refine lv_iconst (v := 1) hx hb dX13_quietest_30 rfl ?_
  refine lv_iadd hx hb dX13_quietest_31 ?_
  refine fg_put (C := RX13) (T := TX13) (N := 24) (ci := 0) (g := 0) (i := 0) hx hb hown hts hX hC in_X13 tyX13 tyX13_ok nmX13 rfl (min_ (by decide)) rfl 7 (by decide) q1317 (fun _ h => h) rfl rfl rfl (Nat.le_of_ble_eq_true rfl) (mct G (mpg (upd d 7 0) kp as bf (upd sc 2 (n + 1)) fd tp it ws sz nu mv)) ms0_2 dX13_quietest_32 (fun H locs hC => ?_)
  refine lv_bipush (v := 10) hx hb dX13_quietest_35 rfl ?_
  refine lv_istore (lv' := [(7, .int 10), (6, .int (-1)), (5, .int (d 7)), (4, .int (d 6)), (3, .int (d 5)), (0, .ref (G.ad 0 0)), (1, .int n), (2, .int k)]) hx hb dX13_quietest_37 hl (by decide) rfl (fun ls hl => ?_)
  have L_1 : ∀ (k1 i1 : Nat), i1 + k1 = 90 → ∀ (as1 : Row) (x1 : Int32) (y1 : Int32) (r1 : Int32) (H : Heap) (locs : List Loc), fC (mF G) (mct G (mpg (upd (upd (upd d 5 x1) 6 y1) 7 0) kp as1 bf (upd (upd sc 1 r1) 2 ((p_qm d n k i1).2)) fd tp it ws sz nu mv)) s.heap H locs → ∀ ls : Array Slot, lv_has ls 10 [(0, .ref (G.ad 0 0)), (1, .int n), (2, .int k), (3, .int (d 5)), (4, .int (d 6)), (5, .int (d 7)), (6, .int ((p_qm d n k i1).1)), (7, .int (nI (10 + i1)))] → WG p l e ({ frames := 5, cells := 0, slots := 0, locals := 104 }) s m (([.ref (G.ad 0 0), .int n, .int k] : List Value).toArray) below meth c H locs (mF G) (fun u : Row × Int32 => some (.int ((p_qm d n k 90).1))) (fun u => mct G (mpg d kp u.1 bf (upd (upd sc 1 u.2) 2 ((p_qm d n k 90).2)) fd tp it ws sz nu mv)) (F0 m 39 ls []) := by
    intro k1
    induction k1 with
    | zero =>
      intro i1 hi1 as1 x1 y1 r1 H locs hC ls hl
      obtain rfl : i1 = 90 := by omega
      refine lv_iload hx hb dX13_quietest_39 (lv_at hl 7 rfl) ?_
      refine lv_bipush (v := 100) hx hb dX13_quietest_41 rfl ?_
      refine fj_ge (tgt := 138) hx hb dX13_quietest_43 (by decide) (fun _ => ?_) (fun z_2 => absurd z_2 (by decide))
      refine lv_aload_n hx hb dX13_quietest_138 rfl (lv_at hl 0 rfl) ?_
      refine fg_get (C := RX13) (T := TX13) (N := 24) (ci := 0) (g := 0) (i := 0) (v := .ref (G.ad 0 1)) hx hb hown hts hX hC in_X13 rfl (min_ (by decide)) rfl 0 (by decide) q1310 (fun _ h => h) rfl dX13_quietest_139 ?_
      refine lv_iconst (v := 5) hx hb dX13_quietest_142 rfl ?_
      refine lv_iload_n hx hb dX13_quietest_143 rfl (lv_at hl 3 rfl) ?_
      refine fg_iast (g := 0) (i := 1) (t0 := 0) hx hb hX hC (min_ (by decide)) rfl rfl (vin_b rfl) (mct G (mpg (upd (upd (upd (upd d 5 x1) 6 y1) 7 0) 5 (d 5)) kp as1 bf (upd (upd sc 1 r1) 2 ((p_qm d n k 90).2)) fd tp it ws sz nu mv)) (mu mp1 (fun _ _ h => h)) dX13_quietest_144 (fun H locs hC => ?_)
      refine lv_aload_n hx hb dX13_quietest_145 rfl (lv_at hl 0 rfl) ?_
      refine fg_get (C := RX13) (T := TX13) (N := 24) (ci := 0) (g := 0) (i := 0) (v := .ref (G.ad 0 1)) hx hb hown hts hX hC in_X13 rfl (min_ (by decide)) rfl 0 (by decide) q1310 (fun _ h => h) rfl dX13_quietest_146 ?_
      refine lv_bipush (v := 6) hx hb dX13_quietest_149 rfl ?_
      refine lv_iload hx hb dX13_quietest_151 (lv_at hl 4 rfl) ?_
      refine fg_iast (g := 0) (i := 1) (t0 := 0) hx hb hX hC (min_ (by decide)) rfl rfl (vin_b rfl) (mct G (mpg (upd (upd (upd (upd (upd d 5 x1) 6 y1) 7 0) 5 (d 5)) 6 (d 6)) kp as1 bf (upd (upd sc 1 r1) 2 ((p_qm d n k 90).2)) fd tp it ws sz nu mv)) (mu mp1 (fun _ _ h => h)) dX13_quietest_153 (fun H locs hC => ?_)
      refine lv_aload_n hx hb dX13_quietest_154 rfl (lv_at hl 0 rfl) ?_
      refine fg_get (C := RX13) (T := TX13) (N := 24) (ci := 0) (g := 0) (i := 0) (v := .ref (G.ad 0 1)) hx hb hown hts hX hC in_X13 rfl (min_ (by decide)) rfl 0 (by decide) q1310 (fun _ h => h) rfl dX13_quietest_155 ?_
      refine lv_bipush (v := 7) hx hb dX13_quietest_158 rfl ?_
      refine lv_iload hx hb dX13_quietest_160 (lv_at hl 5 rfl) ?_
      refine fg_iast (g := 0) (i := 1) (t0 := 0) hx hb hX hC (min_ (by decide)) rfl rfl (vin_b rfl) (mct G (mpg (upd (upd (upd (upd (upd (upd d 5 x1) 6 y1) 7 0) 5 (d 5)) 6 (d 6)) 7 (d 7)) kp as1 bf (upd (upd sc 1 r1) 2 ((p_qm d n k 90).2)) fd tp it ws sz nu mv)) (mu mp1 (fun _ _ h => h)) dX13_quietest_162 (fun H locs hC => ?_)
      refine lv_iload hx hb dX13_quietest_163 (lv_at hl 6 rfl) ?_
      exact fr_i hx hb hr hlocks hX hC ⟨as1, r1⟩ rfl (congrArg (fun z => mct G (mpg z kp as1 bf (upd (upd sc 1 r1) 2 ((p_qm d n k 90).2)) fd tp it ws sz nu mv)) (rh_out d _ _)) dX13_quietest_165
    | succ k1 ih1 =>
      intro i1 hi1 as1 x1 y1 r1 H locs hC ls hl
      refine lv_iload hx hb dX13_quietest_39 (lv_at hl 7 rfl) ?_
      refine lv_bipush (v := 100) hx hb dX13_quietest_41 rfl ?_
      refine fj_ge (tgt := 138) hx hb dX13_quietest_43 (by decide) (fun z_3 => absurd (lt_ix (n := 100) (show 10 + i1 < 100 by omega)) z_3) (fun _ => ?_)
      refine lv_aload_n hx hb dX13_quietest_46 rfl (lv_at hl 0 rfl) ?_
      refine fg_get (C := RX13) (T := TX13) (N := 24) (ci := 0) (g := 0) (i := 0) (v := .ref (G.ad 0 1)) hx hb hown hts hX hC in_X13 rfl (min_ (by decide)) rfl 0 (by decide) q1310 (fun _ h => h) rfl dX13_quietest_47 ?_
      refine lv_iconst (v := 5) hx hb dX13_quietest_50 rfl ?_
      refine lv_iload hx hb dX13_quietest_51 (lv_at hl 7 rfl) ?_
      refine lv_bipush (v := 10) hx hb dX13_quietest_53 rfl ?_
      refine lv_idiv hx hb dX13_quietest_55 (by decide) ?_
      refine fg_iast (g := 0) (i := 1) (t0 := 0) hx hb hX hC (min_ (by decide)) rfl rfl (vin_b rfl) (mct G (mpg (upd (upd (upd (upd d 5 x1) 6 y1) 7 0) 5 ((nI (10 + i1)) / 10)) kp as1 bf (upd (upd sc 1 r1) 2 ((p_qm d n k i1).2)) fd tp it ws sz nu mv)) (mu mp1 (fun _ _ h => h)) dX13_quietest_56 (fun H locs hC => ?_)
      refine lv_aload_n hx hb dX13_quietest_57 rfl (lv_at hl 0 rfl) ?_
      refine fg_get (C := RX13) (T := TX13) (N := 24) (ci := 0) (g := 0) (i := 0) (v := .ref (G.ad 0 1)) hx hb hown hts hX hC in_X13 rfl (min_ (by decide)) rfl 0 (by decide) q1310 (fun _ h => h) rfl dX13_quietest_58 ?_
      refine lv_bipush (v := 6) hx hb dX13_quietest_61 rfl ?_
      refine lv_iload hx hb dX13_quietest_63 (lv_at hl 7 rfl) ?_
      refine lv_bipush (v := 10) hx hb dX13_quietest_65 rfl ?_
      refine fw_irem hx hb dX13_quietest_67 (by decide) ?_
      refine fg_iast (g := 0) (i := 1) (t0 := 0) hx hb hX hC (min_ (by decide)) rfl rfl (vin_b rfl) (mct G (mpg (upd (upd (upd (upd (upd d 5 x1) 6 y1) 7 0) 5 ((nI (10 + i1)) / 10)) 6 (rm (nI (10 + i1)) 10)) kp as1 bf (upd (upd sc 1 r1) 2 ((p_qm d n k i1).2)) fd tp it ws sz nu mv)) (mu mp1 (fun _ _ h => h)) dX13_quietest_68 (fun H locs hC => ?_)
      have hC := (congrArg (fun z => fC (mF G) (mct G (mpg z kp as1 bf (upd (upd sc 1 r1) 2 ((p_qm d n k i1).2)) fd tp it ws sz nu mv)) s.heap _ _) (rh_go d x1 y1 ((nI (10 + i1)) / 10) (rm (nI (10 + i1)) 10))).mp hC
      refine lv_aload_n hx hb dX13_quietest_69 rfl (lv_at hl 0 rfl) ?_
      refine lv_iload_n hx hb dX13_quietest_70 rfl (lv_at hl 1 rfl) ?_
      refine fc_V (As := [.int n]) (rest := []) hx hb hml hown hts hX hC (m_X13_heardIn (hw.rh (show i1 < 90 by omega)) n) (lw_V q1586 q1588 qs80 q124 q1589) hdV_X13_heardIn ⟨rfl, rfl⟩ ⟨Nat.le_of_ble_eq_true rfl, Nat.le_of_ble_eq_true rfl⟩ (fx_recv (g := 0) (i := 0) (ci := 0) (q := (RX13, TX13, 24)) hX hC (min_ (by decide)) rfl rfl) hl.1 rfl (Nat.le_of_ble_eq_true rfl) ⟨Nat.zero_le _, Nat.zero_le _⟩ dX13_quietest_71 (fun _ H locs hC => ?_)
      refine W.eq (g2 := F0 m 74 ls [.int (p_heard (upd (upd (upd d 5 ((nI (10 + i1)) / 10)) 6 (rm (nI (10 + i1)) 10)) 7 0) (ix n))]) rfl ?_
      refine lv_istore (lv' := [(8, .int (p_heard (upd (upd (upd d 5 ((nI (10 + i1)) / 10)) 6 (rm (nI (10 + i1)) 10)) 7 0) (ix n))), (0, .ref (G.ad 0 0)), (1, .int n), (2, .int k), (3, .int (d 5)), (4, .int (d 6)), (5, .int (d 7)), (6, .int ((p_qm d n k i1).1)), (7, .int (nI (10 + i1)))]) hx hb dX13_quietest_74 hl (by decide) rfl (fun ls hl => ?_)
      refine lv_aload_n hx hb dX13_quietest_76 rfl (lv_at hl 1 rfl) ?_
      refine fg_get (C := RX13) (T := TX13) (N := 24) (ci := 0) (g := 0) (i := 0) (v := .int (p_ran (upd (upd (upd d 5 ((nI (10 + i1)) / 10)) 6 (rm (nI (10 + i1)) 10)) 7 0) (ix n))) hx hb hown hts hX hC in_X13 rfl (min_ (by decide)) rfl 6 (by decide) q1316 (fun _ h => h) rfl dX13_quietest_77 ?_
      refine lv_iload_n hx hb dX13_quietest_80 rfl (lv_at hl 3 rfl) ?_
      refine lv_icmp_lt (tgt := 97) hx hb dX13_quietest_81 (by decide) (fun c_5 => ?_) (fun c_5 => ?_)
      · refine lv_iconst (v := 0) hx hb dX13_quietest_97 rfl ?_
        refine lv_istore (lv' := [(9, .int 0), (8, .int (p_heard (upd (upd (upd d 5 ((nI (10 + i1)) / 10)) 6 (rm (nI (10 + i1)) 10)) 7 0) (ix n))), (0, .ref (G.ad 0 0)), (1, .int n), (2, .int k), (3, .int (d 5)), (4, .int (d 6)), (5, .int (d 7)), (6, .int ((p_qm d n k i1).1)), (7, .int (nI (10 + i1)))]) hx hb dX13_quietest_98 hl (by decide) rfl (fun ls hl => ?_)
        refine lv_iload hx hb dX13_quietest_100 (lv_at hl 0 rfl) ?_
        refine lv_if_eq (tgt := 110) hx hb dX13_quietest_102 (by decide) (fun _ => ?_) (fun z_6 => absurd (by decide) z_6)
        refine lv_iload hx hb dX13_quietest_110 (lv_at hl 8 rfl) ?_
        refine lv_istore (lv' := [(6, .int ((p_qm d n k i1).1)), (9, .int 0), (8, .int (p_heard (upd (upd (upd d 5 ((nI (10 + i1)) / 10)) 6 (rm (nI (10 + i1)) 10)) 7 0) (ix n))), (0, .ref (G.ad 0 0)), (1, .int n), (2, .int k), (3, .int (d 5)), (4, .int (d 6)), (5, .int (d 7)), (7, .int (nI (10 + i1)))]) hx hb dX13_quietest_112 hl (by decide) rfl (fun ls hl => ?_)
        refine lv_aload_n hx hb dX13_quietest_114 rfl (lv_at hl 3 rfl) ?_
        refine lv_iload hx hb dX13_quietest_115 (lv_at hl 1 rfl) ?_
        refine lv_if_eq (tgt := 125) hx hb dX13_quietest_117 (by decide) (fun _ => ?_) (fun z_7 => absurd (by decide) z_7)
        refine lv_aload_n hx hb dX13_quietest_125 rfl (lv_at hl 3 rfl) ?_
        refine fg_get (C := RX13) (T := TX13) (N := 24) (ci := 0) (g := 0) (i := 0) (v := .int ((p_qm d n k i1).2)) hx hb hown hts hX hC in_X13 rfl (min_ (by decide)) rfl 7 (by decide) q1317 (fun _ h => h) rfl dX13_quietest_126 ?_
        refine fg_put (C := RX13) (T := TX13) (N := 24) (ci := 0) (g := 0) (i := 0) hx hb hown hts hX hC in_X13 tyX13 tyX13_ok nmX13 rfl (min_ (by decide)) rfl 7 (by decide) q1317 (fun _ h => h) rfl rfl rfl (Nat.le_of_ble_eq_true rfl) (mct G (mpg (upd (upd (upd d 5 ((nI (10 + i1)) / 10)) 6 (rm (nI (10 + i1)) 10)) 7 0) kp (upd (upd (upd d 5 ((nI (10 + i1)) / 10)) 6 (rm (nI (10 + i1)) 10)) 7 0) bf (upd (upd (upd (upd sc 1 r1) 2 ((p_qm d n k i1).2)) 1 (p_ran (upd (upd (upd d 5 ((nI (10 + i1)) / 10)) 6 (rm (nI (10 + i1)) 10)) 7 0) (ix n))) 2 ((p_qm d n k i1).2)) fd tp it ws sz nu mv)) ms0_2 dX13_quietest_129 (fun H locs hC => ?_)
        refine lv_iinc (v := nI (10 + i1 + 1)) (lv' := [(7, .int (nI (10 + i1 + 1))), (6, .int ((p_qm d n k i1).1)), (9, .int 0), (8, .int (p_heard (upd (upd (upd d 5 ((nI (10 + i1)) / 10)) 6 (rm (nI (10 + i1)) 10)) 7 0) (ix n))), (0, .ref (G.ad 0 0)), (1, .int n), (2, .int k), (3, .int (d 5)), (4, .int (d 6)), (5, .int (d 7))]) hx hb dX13_quietest_132 hl (k := 9) rfl (nI_1 _) (by decide) rfl (fun ls hl => ?_)
        refine lv_goto (tgt := 39) hx hb dX13_quietest_135 (by decide) ?_
        have hC := (congrArg (fun z => fC (mF G) (mct G (mpg (upd (upd (upd d 5 ((nI (10 + i1)) / 10)) 6 (rm (nI (10 + i1)) 10)) 7 0) kp (upd (upd (upd d 5 ((nI (10 + i1)) / 10)) 6 (rm (nI (10 + i1)) 10)) 7 0) bf z fd tp it ws sz nu mv)) s.heap _ _) (show upd (upd (upd (upd sc 1 r1) 2 ((p_qm d n k i1).2)) 1 (p_ran (upd (upd (upd d 5 ((nI (10 + i1)) / 10)) 6 (rm (nI (10 + i1)) 10)) 7 0) (ix n))) 2 ((p_qm d n k i1).2) = upd (upd sc 1 (p_ran (upd (upd (upd d 5 ((nI (10 + i1)) / 10)) 6 (rm (nI (10 + i1)) 10)) 7 0) (ix n))) 2 ((p_qm d n k i1).2) from by funext j; simp only [upd]; grind)).mp hC
        have hq : p_qm d n k (i1 + 1) = ((p_qm d n k i1).1, (p_qm d n k i1).2) := by rw [p_qm]; exact Prod.ext (by grind [p_rh]) (by grind [p_rh])
        rw [← t2_2 hq] at hC
        rw [← t2_1 hq] at hl
        exact ih1 (i1 + 1) (by omega) _ _ _ _ _ _ hC ls (lv_sub hl [4, 5, 6, 7, 8, 9, 1, 0] rfl)
      · refine lv_iload hx hb dX13_quietest_84 (lv_at hl 0 rfl) ?_
        refine lv_aload_n hx hb dX13_quietest_86 rfl (lv_at hl 1 rfl) ?_
        refine fg_get (C := RX13) (T := TX13) (N := 24) (ci := 0) (g := 0) (i := 0) (v := .int ((p_qm d n k i1).2)) hx hb hown hts hX hC in_X13 rfl (min_ (by decide)) rfl 7 (by decide) q1317 (fun _ h => h) rfl dX13_quietest_87 ?_
        refine fj_ge (tgt := 97) hx hb dX13_quietest_90 (by decide) (fun c_8 => ?_) (fun c_8 => ?_)
        · refine lv_iconst (v := 0) hx hb dX13_quietest_97 rfl ?_
          refine lv_istore (lv' := [(9, .int 0), (8, .int (p_heard (upd (upd (upd d 5 ((nI (10 + i1)) / 10)) 6 (rm (nI (10 + i1)) 10)) 7 0) (ix n))), (0, .ref (G.ad 0 0)), (1, .int n), (2, .int k), (3, .int (d 5)), (4, .int (d 6)), (5, .int (d 7)), (6, .int ((p_qm d n k i1).1)), (7, .int (nI (10 + i1)))]) hx hb dX13_quietest_98 hl (by decide) rfl (fun ls hl => ?_)
          refine lv_iload hx hb dX13_quietest_100 (lv_at hl 0 rfl) ?_
          refine lv_if_eq (tgt := 110) hx hb dX13_quietest_102 (by decide) (fun _ => ?_) (fun z_9 => absurd (by decide) z_9)
          refine lv_iload hx hb dX13_quietest_110 (lv_at hl 8 rfl) ?_
          refine lv_istore (lv' := [(6, .int ((p_qm d n k i1).1)), (9, .int 0), (8, .int (p_heard (upd (upd (upd d 5 ((nI (10 + i1)) / 10)) 6 (rm (nI (10 + i1)) 10)) 7 0) (ix n))), (0, .ref (G.ad 0 0)), (1, .int n), (2, .int k), (3, .int (d 5)), (4, .int (d 6)), (5, .int (d 7)), (7, .int (nI (10 + i1)))]) hx hb dX13_quietest_112 hl (by decide) rfl (fun ls hl => ?_)
          refine lv_aload_n hx hb dX13_quietest_114 rfl (lv_at hl 3 rfl) ?_
          refine lv_iload hx hb dX13_quietest_115 (lv_at hl 1 rfl) ?_
          refine lv_if_eq (tgt := 125) hx hb dX13_quietest_117 (by decide) (fun _ => ?_) (fun z_10 => absurd (by decide) z_10)
          refine lv_aload_n hx hb dX13_quietest_125 rfl (lv_at hl 3 rfl) ?_
          refine fg_get (C := RX13) (T := TX13) (N := 24) (ci := 0) (g := 0) (i := 0) (v := .int ((p_qm d n k i1).2)) hx hb hown hts hX hC in_X13 rfl (min_ (by decide)) rfl 7 (by decide) q1317 (fun _ h => h) rfl dX13_quietest_126 ?_
          refine fg_put (C := RX13) (T := TX13) (N := 24) (ci := 0) (g := 0) (i := 0) hx hb hown hts hX hC in_X13 tyX13 tyX13_ok nmX13 rfl (min_ (by decide)) rfl 7 (by decide) q1317 (fun _ h => h) rfl rfl rfl (Nat.le_of_ble_eq_true rfl) (mct G (mpg (upd (upd (upd d 5 ((nI (10 + i1)) / 10)) 6 (rm (nI (10 + i1)) 10)) 7 0) kp (upd (upd (upd d 5 ((nI (10 + i1)) / 10)) 6 (rm (nI (10 + i1)) 10)) 7 0) bf (upd (upd (upd (upd sc 1 r1) 2 ((p_qm d n k i1).2)) 1 (p_ran (upd (upd (upd d 5 ((nI (10 + i1)) / 10)) 6 (rm (nI (10 + i1)) 10)) 7 0) (ix n))) 2 ((p_qm d n k i1).2)) fd tp it ws sz nu mv)) ms0_2 dX13_quietest_129 (fun H locs hC => ?_)
          refine lv_iinc (v := nI (10 + i1 + 1)) (lv' := [(7, .int (nI (10 + i1 + 1))), (6, .int ((p_qm d n k i1).1)), (9, .int 0), (8, .int (p_heard (upd (upd (upd d 5 ((nI (10 + i1)) / 10)) 6 (rm (nI (10 + i1)) 10)) 7 0) (ix n))), (0, .ref (G.ad 0 0)), (1, .int n), (2, .int k), (3, .int (d 5)), (4, .int (d 6)), (5, .int (d 7))]) hx hb dX13_quietest_132 hl (k := 9) rfl (nI_1 _) (by decide) rfl (fun ls hl => ?_)
          refine lv_goto (tgt := 39) hx hb dX13_quietest_135 (by decide) ?_
          have hC := (congrArg (fun z => fC (mF G) (mct G (mpg (upd (upd (upd d 5 ((nI (10 + i1)) / 10)) 6 (rm (nI (10 + i1)) 10)) 7 0) kp (upd (upd (upd d 5 ((nI (10 + i1)) / 10)) 6 (rm (nI (10 + i1)) 10)) 7 0) bf z fd tp it ws sz nu mv)) s.heap _ _) (show upd (upd (upd (upd sc 1 r1) 2 ((p_qm d n k i1).2)) 1 (p_ran (upd (upd (upd d 5 ((nI (10 + i1)) / 10)) 6 (rm (nI (10 + i1)) 10)) 7 0) (ix n))) 2 ((p_qm d n k i1).2) = upd (upd sc 1 (p_ran (upd (upd (upd d 5 ((nI (10 + i1)) / 10)) 6 (rm (nI (10 + i1)) 10)) 7 0) (ix n))) 2 ((p_qm d n k i1).2) from by funext j; simp only [upd]; grind)).mp hC
          have hq : p_qm d n k (i1 + 1) = ((p_qm d n k i1).1, (p_qm d n k i1).2) := by rw [p_qm]; exact Prod.ext (by grind [p_rh]) (by grind [p_rh])
          rw [← t2_2 hq] at hC
          rw [← t2_1 hq] at hl
          exact ih1 (i1 + 1) (by omega) _ _ _ _ _ _ hC ls (lv_sub hl [4, 5, 6, 7, 8, 9, 1, 0] rfl)
        · refine lv_iconst (v := 1) hx hb dX13_quietest_93 rfl ?_
          refine lv_goto (tgt := 98) hx hb dX13_quietest_94 (by decide) ?_
          refine lv_istore (lv' := [(9, .int 1), (8, .int (p_heard (upd (upd (upd d 5 ((nI (10 + i1)) / 10)) 6 (rm (nI (10 + i1)) 10)) 7 0) (ix n))), (0, .ref (G.ad 0 0)), (1, .int n), (2, .int k), (3, .int (d 5)), (4, .int (d 6)), (5, .int (d 7)), (6, .int ((p_qm d n k i1).1)), (7, .int (nI (10 + i1)))]) hx hb dX13_quietest_98 hl (by decide) rfl (fun ls hl => ?_)
          refine lv_iload hx hb dX13_quietest_100 (lv_at hl 0 rfl) ?_
          refine lv_if_eq (tgt := 110) hx hb dX13_quietest_102 (by decide) (fun z_11 => absurd z_11 (by decide)) (fun _ => ?_)
          refine lv_iload hx hb dX13_quietest_105 (lv_at hl 9 rfl) ?_
          refine lv_goto (tgt := 112) hx hb dX13_quietest_107 (by decide) ?_
          refine lv_istore (lv' := [(6, .int (nI (10 + i1))), (9, .int 1), (8, .int (p_heard (upd (upd (upd d 5 ((nI (10 + i1)) / 10)) 6 (rm (nI (10 + i1)) 10)) 7 0) (ix n))), (0, .ref (G.ad 0 0)), (1, .int n), (2, .int k), (3, .int (d 5)), (4, .int (d 6)), (5, .int (d 7)), (7, .int (nI (10 + i1)))]) hx hb dX13_quietest_112 hl (by decide) rfl (fun ls hl => ?_)
          refine lv_aload_n hx hb dX13_quietest_114 rfl (lv_at hl 3 rfl) ?_
          refine lv_iload hx hb dX13_quietest_115 (lv_at hl 1 rfl) ?_
          refine lv_if_eq (tgt := 125) hx hb dX13_quietest_117 (by decide) (fun z_12 => absurd z_12 (by decide)) (fun _ => ?_)
          refine lv_iload hx hb dX13_quietest_120 (lv_at hl 2 rfl) ?_
          refine lv_goto (tgt := 129) hx hb dX13_quietest_122 (by decide) ?_
          refine fg_put (C := RX13) (T := TX13) (N := 24) (ci := 0) (g := 0) (i := 0) hx hb hown hts hX hC in_X13 tyX13 tyX13_ok nmX13 rfl (min_ (by decide)) rfl 7 (by decide) q1317 (fun _ h => h) rfl rfl rfl (Nat.le_of_ble_eq_true rfl) (mct G (mpg (upd (upd (upd d 5 ((nI (10 + i1)) / 10)) 6 (rm (nI (10 + i1)) 10)) 7 0) kp (upd (upd (upd d 5 ((nI (10 + i1)) / 10)) 6 (rm (nI (10 + i1)) 10)) 7 0) bf (upd (upd (upd (upd sc 1 r1) 2 ((p_qm d n k i1).2)) 1 (p_ran (upd (upd (upd d 5 ((nI (10 + i1)) / 10)) 6 (rm (nI (10 + i1)) 10)) 7 0) (ix n))) 2 (p_heard (upd (upd (upd d 5 ((nI (10 + i1)) / 10)) 6 (rm (nI (10 + i1)) 10)) 7 0) (ix n))) fd tp it ws sz nu mv)) ms0_2 dX13_quietest_129 (fun H locs hC => ?_)
          refine lv_iinc (v := nI (10 + i1 + 1)) (lv' := [(7, .int (nI (10 + i1 + 1))), (6, .int (nI (10 + i1))), (9, .int 1), (8, .int (p_heard (upd (upd (upd d 5 ((nI (10 + i1)) / 10)) 6 (rm (nI (10 + i1)) 10)) 7 0) (ix n))), (0, .ref (G.ad 0 0)), (1, .int n), (2, .int k), (3, .int (d 5)), (4, .int (d 6)), (5, .int (d 7))]) hx hb dX13_quietest_132 hl (k := 9) rfl (nI_1 _) (by decide) rfl (fun ls hl => ?_)
          refine lv_goto (tgt := 39) hx hb dX13_quietest_135 (by decide) ?_
          have hC := (congrArg (fun z => fC (mF G) (mct G (mpg (upd (upd (upd d 5 ((nI (10 + i1)) / 10)) 6 (rm (nI (10 + i1)) 10)) 7 0) kp (upd (upd (upd d 5 ((nI (10 + i1)) / 10)) 6 (rm (nI (10 + i1)) 10)) 7 0) bf z fd tp it ws sz nu mv)) s.heap _ _) (show upd (upd (upd (upd sc 1 r1) 2 ((p_qm d n k i1).2)) 1 (p_ran (upd (upd (upd d 5 ((nI (10 + i1)) / 10)) 6 (rm (nI (10 + i1)) 10)) 7 0) (ix n))) 2 (p_heard (upd (upd (upd d 5 ((nI (10 + i1)) / 10)) 6 (rm (nI (10 + i1)) 10)) 7 0) (ix n)) = upd (upd sc 1 (p_ran (upd (upd (upd d 5 ((nI (10 + i1)) / 10)) 6 (rm (nI (10 + i1)) 10)) 7 0) (ix n))) 2 (p_heard (upd (upd (upd d 5 ((nI (10 + i1)) / 10)) 6 (rm (nI (10 + i1)) 10)) 7 0) (ix n)) from by funext j; simp only [upd]; grind)).mp hC
          have hq : p_qm d n k (i1 + 1) = (nI (10 + i1), p_heard (upd (upd (upd d 5 ((nI (10 + i1)) / 10)) 6 (rm (nI (10 + i1)) 10)) 7 0) (ix n)) := by rw [p_qm]; exact Prod.ext (by grind [p_rh]) (by grind [p_rh])
          rw [← t2_2 hq] at hC
          rw [← t2_1 hq] at hl
          exact ih1 (i1 + 1) (by omega) _ _ _ _ _ _ hC ls (lv_sub hl [4, 5, 6, 7, 8, 9, 1, 0] rfl)
  have hC := (congrArg (fun z => fC (mF G) (mct G (mpg z kp as bf (upd sc 2 (n + 1)) fd tp it ws sz nu mv)) s.heap _ _) (rh_in d)).mp hC
  have hC := (congrArg (fun z => fC (mF G) (mct G (mpg (upd (upd (upd d 5 (d 5)) 6 (d 6)) 7 0) kp as bf z fd tp it ws sz nu mv)) s.heap _ _) (show upd sc 2 (n + 1) = upd (upd sc 1 (sc 1)) 2 (n + 1) by rw [← upd_id sc 1])).mp hC
  exact L_1 90 0 (by omega) _ _ _ _ _ _ hC ls (lv_sub hl [5, 6, 7, 4, 3, 2, 1, 0] rfl)
set_option maxRecDepth 100000 in
theorem m_X13_rhythm {l : Launch} {G : Gm} {d kp as bf sc fd tp it ws sz nu mv : Row} (hw : WF d) (n k : Int32) : Cm l yX13_rhythm (ws_ yX13_rhythm cX13_rhythm 3 (some .int)) ({ frames := 6, cells := 0, slots := 0, locals := 133 }) (mF G) [.ref (G.ad 0 0), .int n, .int k] (mct G (mpg d kp as bf sc fd tp it ws sz nu mv)) (fun u : Row × Int32 × Int32 => some (.int ((s_rhythm2 d fd n k).1))) (fun u => mct G (mpg d kp u.1 bf (upd (upd sc 1 u.2.1) 2 u.2.2) ((s_rhythm2 d fd n k).2) tp it ws sz nu mv)) := by
  refine Cm.start (by decide) (Nat.le_of_ble_eq_true rfl) ?_
  intro p e s m below meth c hf hX hC ls hl
  obtain ⟨hx, hb, hr, hml, hown, hts, hlocks⟩ := hf
  have hl : lv_has ls 3 [(0, .ref (G.ad 0 0)), (1, .int n), (2, .int k)] := hl
  have hown : s.vm.findClass "OwlEarsModel" = some m.cls := hown
  refine lv_iload_n hx hb dX13_rhythm_0 rfl (lv_at hl 1 rfl) ?_
  refine lv_iload_n hx hb dX13_rhythm_1 rfl (lv_at hl 2 rfl) ?_
  refine fc_S (As := [.int n, .int k]) (rest := []) hx hb hml hown hts hX hC (m_X13_isRhythm n k) (lw_S q1668 q1669 q124 q1670) hdS_X13_isRhythm ⟨rfl, rfl⟩ ⟨Nat.le_of_ble_eq_true rfl, Nat.le_of_ble_eq_true rfl⟩ hl.1 rfl (Nat.le_of_ble_eq_true rfl) ⟨Nat.zero_le _, Nat.zero_le _⟩ dX13_rhythm_2 (fun _ H locs hC => ?_)
  refine W.eq (g2 := F0 m 5 ls [.int (b2i (p_okTicks n k))]) rfl ?_
  refine fb_eq (tgt := 17) hx hb dX13_rhythm_5 (by decide) (fun c_2 => ?_) (fun c_2 => ?_)
  · refine lv_aload_n hx hb dX13_rhythm_17 rfl (lv_at hl 0 rfl) ?_
    refine lv_ldc (v := (-1000001)) hx hb hown (hts _ q1403) dX13_rhythm_18 ?_
    refine fc_V (As := [.int (-1000001)]) (rest := []) hx hb hml hown hts hX hC (m_X13_finding 0 (vin_b rfl)) (lw_V q1404 q1406 qs56 q124 q1407) hdV_X13_finding ⟨rfl, rfl⟩ ⟨Nat.le_of_ble_eq_true rfl, Nat.le_of_ble_eq_true rfl⟩ (fx_recv (g := 0) (i := 0) (ci := 0) (q := (RX13, TX13, 24)) hX hC (min_ (by decide)) rfl rfl) hl.1 rfl (Nat.le_of_ble_eq_true rfl) ⟨Nat.zero_le _, Nat.zero_le _⟩ dX13_rhythm_20 (fun _ H locs hC => ?_)
    refine W.eq (g2 := F0 m 23 ls [.int (-1000001)]) rfl ?_
    have hs : s_rhythm2 d fd n k = (((-1000001), p_find fd 0) : Int32 × Row) := by rw [s_rhythm2, if_neg c_2]
    exact fr_i hx hb hr hlocks hX hC ⟨as, (sc 1), (sc 2)⟩ (congrArg (fun z => some (Value.int z)) (t2_1 hs)) ((congrArg (fun z => mct G (mpg d kp as bf (upd (upd sc 1 (sc 1)) 2 (sc 2)) z tp it ws sz nu mv)) (t2_2 hs)).trans (congrArg (fun z => mct G (mpg d kp as bf z (p_find fd 0) tp it ws sz nu mv)) (by funext j; simp only [upd]; grind))).symm dX13_rhythm_23
  · refine lv_aload_n hx hb dX13_rhythm_8 rfl (lv_at hl 0 rfl) ?_
    refine lv_iload_n hx hb dX13_rhythm_9 rfl (lv_at hl 1 rfl) ?_
    refine lv_iload_n hx hb dX13_rhythm_10 rfl (lv_at hl 2 rfl) ?_
    refine fc_V (As := [.int n, .int k]) (rest := []) hx hb hml hown hts hX hC (m_X13_quietest hw n k) (lw_V q1671 q1673 qs86 q124 q1674) hdV_X13_quietest ⟨rfl, rfl⟩ ⟨Nat.le_of_ble_eq_true rfl, Nat.le_of_ble_eq_true rfl⟩ (fx_recv (g := 0) (i := 0) (ci := 0) (q := (RX13, TX13, 24)) hX hC (min_ (by decide)) rfl rfl) hl.1 rfl (Nat.le_of_ble_eq_true rfl) ⟨Nat.zero_le _, Nat.zero_le _⟩ dX13_rhythm_11 (fun u_3 H locs hC => ?_)
    refine W.eq (g2 := F0 m 14 ls [.int ((p_qm d n k 90).1)]) rfl ?_
    refine lv_goto (tgt := 23) hx hb dX13_rhythm_14 (by decide) ?_
    have hs : s_rhythm2 d fd n k = (((p_qm d n k 90).1, fd) : Int32 × Row) := by rw [s_rhythm2, if_pos c_2, ← (qm_90 hw c_2).1]
    exact fr_i hx hb hr hlocks hX hC ⟨u_3.1, u_3.2, ((p_qm d n k 90).2)⟩ (congrArg (fun z => some (Value.int z)) (t2_1 hs)) (congrArg (fun z => mct G (mpg d kp u_3.1 bf (upd (upd sc 1 u_3.2) 2 ((p_qm d n k 90).2)) z tp it ws sz nu mv)) (t2_2 hs)).symm dX13_rhythm_23
set_option maxRecDepth 100000 in
theorem m_X13_least {l : Launch} {G : Gm} {d kp as bf sc fd tp it ws sz nu mv : Row} (hw : WF d) (n k : Int32) : Cm l yX13_least (ws_ yX13_least cX13_least 4 (some .int)) ({ frames := 6, cells := 0, slots := 0, locals := 133 }) (mF G) [.ref (G.ad 0 0), .int n, .int k] (mct G (mpg d kp as bf sc fd tp it ws sz nu mv)) (fun u : Row × Int32 × Int32 => some (.int ((s_least2 d fd n k).1))) (fun u => mct G (mpg d kp u.1 bf (upd (upd sc 1 u.2.1) 2 u.2.2) ((s_least2 d fd n k).2) tp it ws sz nu mv)) := by
  refine Cm.start (by decide) (Nat.le_of_ble_eq_true rfl) ?_
  intro p e s m below meth c hf hX hC ls hl
  obtain ⟨hx, hb, hr, hml, hown, hts, hlocks⟩ := hf
  have hl : lv_has ls 4 [(0, .ref (G.ad 0 0)), (1, .int n), (2, .int k)] := hl
  have hown : s.vm.findClass "OwlEarsModel" = some m.cls := hown
  refine lv_iload_n hx hb dX13_least_0 rfl (lv_at hl 1 rfl) ?_
  refine lv_iload_n hx hb dX13_least_1 rfl (lv_at hl 2 rfl) ?_
  refine fc_S (As := [.int n, .int k]) (rest := []) hx hb hml hown hts hX hC (m_X13_isRhythm n k) (lw_S q1668 q1669 q124 q1670) hdS_X13_isRhythm ⟨rfl, rfl⟩ ⟨Nat.le_of_ble_eq_true rfl, Nat.le_of_ble_eq_true rfl⟩ hl.1 rfl (Nat.le_of_ble_eq_true rfl) ⟨Nat.zero_le _, Nat.zero_le _⟩ dX13_least_2 (fun _ H locs hC => ?_)
  refine W.eq (g2 := F0 m 5 ls [.int (b2i (p_okTicks n k))]) rfl ?_
  refine fb_ne (tgt := 15) hx hb dX13_least_5 (by decide) (fun c_2 => ?_) (fun c_2 => ?_)
  · refine lv_aload_n hx hb dX13_least_15 rfl (lv_at hl 0 rfl) ?_
    refine lv_iload_n hx hb dX13_least_16 rfl (lv_at hl 1 rfl) ?_
    refine lv_iload_n hx hb dX13_least_17 rfl (lv_at hl 2 rfl) ?_
    refine fc_V (As := [.int n, .int k]) (rest := []) hx hb hml hown hts hX hC (m_X13_quietest hw n k) (lw_V q1671 q1673 qs86 q124 q1674) hdV_X13_quietest ⟨rfl, rfl⟩ ⟨Nat.le_of_ble_eq_true rfl, Nat.le_of_ble_eq_true rfl⟩ (fx_recv (g := 0) (i := 0) (ci := 0) (q := (RX13, TX13, 24)) hX hC (min_ (by decide)) rfl rfl) hl.1 rfl (Nat.le_of_ble_eq_true rfl) ⟨Nat.zero_le _, Nat.zero_le _⟩ dX13_least_18 (fun u_3 H locs hC => ?_)
    refine W.eq (g2 := F0 m 21 ls [.int ((p_qm d n k 90).1)]) rfl ?_
    refine lv_istore_n (lv' := [(3, .int ((p_qm d n k 90).1)), (0, .ref (G.ad 0 0)), (1, .int n), (2, .int k)]) hx hb dX13_least_21 rfl hl (by decide) rfl (fun ls hl => ?_)
    refine lv_iload_n hx hb dX13_least_22 rfl (lv_at hl 0 rfl) ?_
    refine fi_ge (tgt := 35) hx hb dX13_least_23 (by decide) (fun _ => ?_) (fun z_4 => absurd z_4 (by rw [(qm_90 hw c_2).1]; exact (qm_90 hw c_2).2))
    refine lv_aload_n hx hb dX13_least_35 rfl (lv_at hl 1 rfl) ?_
    refine fg_get (C := RX13) (T := TX13) (N := 24) (ci := 0) (g := 0) (i := 0) (v := .int ((p_qm d n k 90).2)) hx hb hown hts hX hC in_X13 rfl (min_ (by decide)) rfl 7 (by decide) q1317 (fun _ h => h) rfl dX13_least_36 ?_
    have hs : s_least2 d fd n k = (((p_qm d n k 90).2, fd) : Int32 × Row) := by rw [s_least2, if_pos c_2, ← (qm_90 hw c_2).1]
    exact fr_i hx hb hr hlocks hX hC ⟨u_3.1, u_3.2, ((p_qm d n k 90).2)⟩ (congrArg (fun z => some (Value.int z)) (t2_1 hs)) (congrArg (fun z => mct G (mpg d kp u_3.1 bf (upd (upd sc 1 u_3.2) 2 ((p_qm d n k 90).2)) z tp it ws sz nu mv)) (t2_2 hs)).symm dX13_least_39
  · refine lv_aload_n hx hb dX13_least_8 rfl (lv_at hl 0 rfl) ?_
    refine lv_ldc (v := (-1000001)) hx hb hown (hts _ q1403) dX13_least_9 ?_
    refine fc_V (As := [.int (-1000001)]) (rest := []) hx hb hml hown hts hX hC (m_X13_finding 0 (vin_b rfl)) (lw_V q1404 q1406 qs56 q124 q1407) hdV_X13_finding ⟨rfl, rfl⟩ ⟨Nat.le_of_ble_eq_true rfl, Nat.le_of_ble_eq_true rfl⟩ (fx_recv (g := 0) (i := 0) (ci := 0) (q := (RX13, TX13, 24)) hX hC (min_ (by decide)) rfl rfl) hl.1 rfl (Nat.le_of_ble_eq_true rfl) ⟨Nat.zero_le _, Nat.zero_le _⟩ dX13_least_11 (fun _ H locs hC => ?_)
    refine W.eq (g2 := F0 m 14 ls [.int (-1000001)]) rfl ?_
    have hs : s_least2 d fd n k = (((-1000001), p_find fd 0) : Int32 × Row) := by rw [s_least2, if_neg c_2]
    exact fr_i hx hb hr hlocks hX hC ⟨as, (sc 1), (sc 2)⟩ (congrArg (fun z => some (Value.int z)) (t2_1 hs)) ((congrArg (fun z => mct G (mpg d kp as bf (upd (upd sc 1 (sc 1)) 2 (sc 2)) z tp it ws sz nu mv)) (t2_2 hs)).trans (congrArg (fun z => mct G (mpg d kp as bf z (p_find fd 0) tp it ws sz nu mv)) (by funext j; simp only [upd]; grind))).symm dX13_least_14
set_option maxRecDepth 100000 in
theorem m_X13_drawn {l : Launch} {G : Gm} {d kp as bf sc fd tp it ws sz nu mv : Row}  : Cm l yX13_drawn (ws_ yX13_drawn cX13_drawn 1 (some .int)) ({ frames := 0, cells := 0, slots := 0, locals := 0 }) (mF G) [.ref (G.ad 0 0)] (mct G (mpg d kp as bf sc fd tp it ws sz nu mv)) (fun _ : Unit => some (.int (ush (p_z (d 2)) 8))) (fun _ => mct G (mpg (upd d 2 (p_z (d 2))) kp as bf sc fd tp it ws sz nu mv)) := by
  refine Cm.start (by decide) (Nat.le_of_ble_eq_true rfl) ?_
  intro p e s m below meth c hf hX hC ls hl
  obtain ⟨hx, hb, hr, hml, hown, hts, hlocks⟩ := hf
  have hl : lv_has ls 1 [(0, .ref (G.ad 0 0))] := hl
  have hown : s.vm.findClass "OwlEarsModel" = some m.cls := hown
  refine lv_aload_n hx hb dX13_drawn_0 rfl (lv_at hl 0 rfl) ?_
  refine fg_get (C := RX13) (T := TX13) (N := 24) (ci := 0) (g := 0) (i := 0) (v := .ref (G.ad 0 1)) hx hb hown hts hX hC in_X13 rfl (min_ (by decide)) rfl 0 (by decide) q1310 (fun _ h => h) rfl dX13_drawn_1 ?_
  refine lv_iconst (v := 2) hx hb dX13_drawn_4 rfl ?_
  refine lv_aload_n hx hb dX13_drawn_5 rfl (lv_at hl 0 rfl) ?_
  refine fg_get (C := RX13) (T := TX13) (N := 24) (ci := 0) (g := 0) (i := 0) (v := .ref (G.ad 0 1)) hx hb hown hts hX hC in_X13 rfl (min_ (by decide)) rfl 0 (by decide) q1310 (fun _ h => h) rfl dX13_drawn_6 ?_
  refine lv_iconst (v := 2) hx hb dX13_drawn_9 rfl ?_
  refine fg_iald (g := 0) (i := 1) (t0 := 0) (v := d 2) hx hb hX hC (min_ (by decide)) rfl rfl (vin_b rfl) rfl dX13_drawn_10 ?_
  refine lv_ldcw (v := 1103515245) hx hb hown (hts _ q1719) dX13_drawn_11 ?_
  refine lv_imul hx hb dX13_drawn_14 ?_
  refine lv_sipush (v := 12345) hx hb dX13_drawn_15 rfl ?_
  refine lv_iadd hx hb dX13_drawn_18 ?_
  refine fg_iast (g := 0) (i := 1) (t0 := 0) hx hb hX hC (min_ (by decide)) rfl rfl (vin_b rfl) (mct G (mpg (upd d 2 (((d 2) * 1103515245) + 12345)) kp as bf sc fd tp it ws sz nu mv)) (mu mp1 (fun _ _ h => h)) dX13_drawn_19 (fun H locs hC => ?_)
  refine lv_aload_n hx hb dX13_drawn_20 rfl (lv_at hl 0 rfl) ?_
  refine fg_get (C := RX13) (T := TX13) (N := 24) (ci := 0) (g := 0) (i := 0) (v := .ref (G.ad 0 1)) hx hb hown hts hX hC in_X13 rfl (min_ (by decide)) rfl 0 (by decide) q1310 (fun _ h => h) rfl dX13_drawn_21 ?_
  refine lv_iconst (v := 2) hx hb dX13_drawn_24 rfl ?_
  refine fg_iald (g := 0) (i := 1) (t0 := 0) (v := ((d 2) * 1103515245) + 12345) hx hb hX hC (min_ (by decide)) rfl rfl (vin_b rfl) rfl dX13_drawn_25 ?_
  refine lv_bipush (v := 8) hx hb dX13_drawn_26 rfl ?_
  refine fw_iushr hx hb dX13_drawn_28 ?_
  exact fr_i hx hb hr hlocks hX hC () (congrArg (fun z => some (Value.int z)) (rfl)) (congrArg (fun z => mct G (mpg z kp as bf sc fd tp it ws sz nu mv)) (rfl)) dX13_drawn_29
set_option maxRecDepth 100000 in
theorem m_X13_leaves {l : Launch} {G : Gm} {d kp as bf sc fd tp it ws sz nu mv : Row} (hw : WF d) (n : Int32) : Cm l yX13_leaves (ws_ yX13_leaves cX13_leaves 5 (some .int)) ({ frames := 4, cells := 0, slots := 0, locals := 81 }) (mF G) [.ref (G.ad 0 0), .int n] (mct G (mpg d kp as bf sc fd tp it ws sz nu mv)) (fun _ : Unit => some (.int ((s_leaves d fd n).1))) (fun _ => mct G (mpg ((s_leaves d fd n).2.1) kp as bf sc ((s_leaves d fd n).2.2) tp it ws sz nu mv)) := by
  refine Cm.start (by decide) (Nat.le_of_ble_eq_true rfl) ?_
  intro p e s m below meth c hf hX hC ls hl
  obtain ⟨hx, hb, hr, hml, hown, hts, hlocks⟩ := hf
  have hl : lv_has ls 5 [(0, .ref (G.ad 0 0)), (1, .int n)] := hl
  have hown : s.vm.findClass "OwlEarsModel" = some m.cls := hown
  refine lv_iload_n hx hb dX13_leaves_0 rfl (lv_at hl 1 rfl) ?_
  refine lv_iconst (v := 1) hx hb dX13_leaves_1 rfl ?_
  refine lv_bipush (v := 20) hx hb dX13_leaves_2 rfl ?_
  refine fc_S (As := [.int n, .int 1, .int 20]) (rest := []) hx hb hml hown hts hX hC (m_X13_within n 1 20) (lw_S q1390 q1391 q124 q1392) hdS_X13_within ⟨rfl, rfl⟩ ⟨Nat.le_of_ble_eq_true rfl, Nat.le_of_ble_eq_true rfl⟩ hl.1 rfl (Nat.le_of_ble_eq_true rfl) ⟨Nat.zero_le _, Nat.zero_le _⟩ dX13_leaves_4 (fun _ H locs hC => ?_)
  refine W.eq (g2 := F0 m 7 ls [.int (b2i (p_in n 1 20))]) rfl ?_
  refine fb_ne (tgt := 17) hx hb dX13_leaves_7 (by decide) (fun c_2 => ?_) (fun c_2 => ?_)
  · refine lv_aload_n hx hb dX13_leaves_17 rfl (lv_at hl 0 rfl) ?_
    refine fg_get (C := RX13) (T := TX13) (N := 24) (ci := 0) (g := 0) (i := 0) (v := .ref (G.ad 0 1)) hx hb hown hts hX hC in_X13 rfl (min_ (by decide)) rfl 0 (by decide) q1310 (fun _ h => h) rfl dX13_leaves_18 ?_
    refine lv_iconst (v := 0) hx hb dX13_leaves_21 rfl ?_
    refine fg_iald (g := 0) (i := 1) (t0 := 0) (v := d 0) hx hb hX hC (min_ (by decide)) rfl rfl (vin_b rfl) rfl dX13_leaves_22 ?_
    refine lv_iload_n hx hb dX13_leaves_23 rfl (lv_at hl 1 rfl) ?_
    refine lv_iadd hx hb dX13_leaves_24 ?_
    refine lv_ldc (v := 99999) hx hb hown (hts _ q1520) dX13_leaves_25 ?_
    refine fj_le (tgt := 37) hx hb dX13_leaves_27 (by decide) (fun c_3 => ?_) (fun c_3 => ?_)
    · refine lv_iconst (v := 0) hx hb dX13_leaves_37 rfl ?_
      refine lv_istore_n (lv' := [(2, .int 0), (0, .ref (G.ad 0 0)), (1, .int n)]) hx hb dX13_leaves_38 rfl hl (by decide) rfl (fun ls hl => ?_)
      refine lv_iconst (v := 0) hx hb dX13_leaves_39 rfl ?_
      refine lv_istore_n (lv' := [(3, .int 0), (2, .int 0), (0, .ref (G.ad 0 0)), (1, .int n)]) hx hb dX13_leaves_40 rfl hl (by decide) rfl (fun ls hl => ?_)
      have L_4 : ∀ (k4 i4 : Nat), i4 + k4 = ix n → ∀ (H : Heap) (locs : List Loc), fC (mF G) (mct G (mpg ((p_lv d i4).2) kp as bf sc fd tp it ws sz nu mv)) s.heap H locs → ∀ ls : Array Slot, lv_has ls 5 [(0, .ref (G.ad 0 0)), (1, .int n), (2, .int ((p_lv d i4).1)), (3, .int (nI i4))] → WG p l e ({ frames := 4, cells := 0, slots := 0, locals := 81 }) s m (([.ref (G.ad 0 0), .int n] : List Value).toArray) below meth c H locs (mF G) (fun _ : Unit => some (.int ((s_leaves d fd n).1))) (fun _ => mct G (mpg ((s_leaves d fd n).2.1) kp as bf sc ((s_leaves d fd n).2.2) tp it ws sz nu mv)) (F0 m 41 ls []) := by
        intro k4
        induction k4 with
        | zero =>
          intro i4 hi4 H locs hC ls hl
          obtain rfl : i4 = ix n := by omega
          refine lv_iload_n hx hb dX13_leaves_41 rfl (lv_at hl 3 rfl) ?_
          refine lv_iload_n hx hb dX13_leaves_42 rfl (lv_at hl 1 rfl) ?_
          refine fj_ge (tgt := 97) hx hb dX13_leaves_43 (by decide) (fun _ => ?_) (fun z_5 => absurd z_5 (nlt_ix (n := n)))
          refine lv_iload_n hx hb dX13_leaves_97 rfl (lv_at hl 2 rfl) ?_
          have hs : s_leaves d fd n = (((p_lv d (ix n)).1, (p_lv d (ix n)).2, fd) : Int32 × Row × Row) := by rw [s_leaves, if_pos c_2, if_neg c_3]
          exact fr_i hx hb hr hlocks hX hC () (congrArg (fun z => some (Value.int z)) (t3_1 hs)) ((congrArg (fun z => mct G (mpg z kp as bf sc ((s_leaves d fd n).2.2) tp it ws sz nu mv)) (t3_2 hs)).trans (congrArg (fun z => mct G (mpg ((p_lv d (ix n)).2) kp as bf sc z tp it ws sz nu mv)) (t3_3 hs))).symm dX13_leaves_98
        | succ k4 ih4 =>
          intro i4 hi4 H locs hC ls hl
          have hz4 : i4 < 2147483648 := by have := ix_lt n; omega
          refine lv_iload_n hx hb dX13_leaves_41 rfl (lv_at hl 3 rfl) ?_
          refine lv_iload_n hx hb dX13_leaves_42 rfl (lv_at hl 1 rfl) ?_
          refine fj_ge (tgt := 97) hx hb dX13_leaves_43 (by decide) (fun z_6 => absurd (lt_ix (n := n) (show i4 < ix n by omega)) z_6) (fun _ => ?_)
          refine lv_aload_n hx hb dX13_leaves_46 rfl (lv_at hl 0 rfl) ?_
          refine fc_V (As := []) (rest := []) hx hb hml hown hts hX hC (m_X13_drawn) (lw_V q1715 q1717 qs92 q124 q1718) hdV_X13_drawn ⟨rfl, rfl⟩ ⟨Nat.le_of_ble_eq_true rfl, Nat.le_of_ble_eq_true rfl⟩ (fx_recv (g := 0) (i := 0) (ci := 0) (q := (RX13, TX13, 24)) hX hC (min_ (by decide)) rfl rfl) hl.1 rfl (Nat.le_of_ble_eq_true rfl) ⟨Nat.zero_le _, Nat.zero_le _⟩ dX13_leaves_47 (fun _ H locs hC => ?_)
          refine W.eq (g2 := F0 m 50 ls [.int (ush (p_z (((p_lv d i4).2) 2)) 8)]) rfl ?_
          refine lv_bipush (v := 36) hx hb dX13_leaves_50 rfl ?_
          refine fw_irem hx hb dX13_leaves_52 (by decide) ?_
          refine lv_istore (lv' := [(4, .int (rm (ush (p_z (((p_lv d i4).2) 2)) 8) 36)), (0, .ref (G.ad 0 0)), (1, .int n), (2, .int ((p_lv d i4).1)), (3, .int (nI i4))]) hx hb dX13_leaves_53 hl (by decide) rfl (fun ls hl => ?_)
          refine lv_aload_n hx hb dX13_leaves_55 rfl (lv_at hl 1 rfl) ?_
          refine fg_get (C := RX13) (T := TX13) (N := 24) (ci := 0) (g := 0) (i := 0) (v := .ref (G.ad 0 1)) hx hb hown hts hX hC in_X13 rfl (min_ (by decide)) rfl 0 (by decide) q1310 (fun _ h => h) rfl dX13_leaves_56 ?_
          refine lv_bipush (v := 56) hx hb dX13_leaves_59 rfl ?_
          refine lv_iload hx hb dX13_leaves_61 (lv_at hl 0 rfl) ?_
          refine lv_iadd hx hb dX13_leaves_63 ?_
          refine lv_aload_n hx hb dX13_leaves_64 rfl (lv_at hl 1 rfl) ?_
          refine fc_V (As := []) (rest := [.int (56 + (rm (ush (p_z (((p_lv d i4).2) 2)) 8) 36)), .ref (G.ad 0 1)]) hx hb hml hown hts hX hC (m_X13_drawn) (lw_V q1715 q1717 qs92 q124 q1718) hdV_X13_drawn ⟨rfl, rfl⟩ ⟨Nat.le_of_ble_eq_true rfl, Nat.le_of_ble_eq_true rfl⟩ (fx_recv (g := 0) (i := 0) (ci := 0) (q := (RX13, TX13, 24)) hX hC (min_ (by decide)) rfl rfl) hl.1 rfl (Nat.le_of_ble_eq_true rfl) ⟨Nat.zero_le _, Nat.zero_le _⟩ dX13_leaves_65 (fun _ H locs hC => ?_)
          refine W.eq (g2 := F0 m 68 ls [.int (ush (p_z ((upd ((p_lv d i4).2) 2 (p_z (((p_lv d i4).2) 2))) 2)) 8), .int (56 + (rm (ush (p_z (((p_lv d i4).2) 2)) 8) 36)), .ref (G.ad 0 1)]) rfl ?_
          refine lv_bipush (v := 50) hx hb dX13_leaves_68 rfl ?_
          refine fw_irem hx hb dX13_leaves_70 (by decide) ?_
          refine fg_iast (g := 0) (i := 1) (t0 := 0) hx hb hX hC (min_ (by decide)) rfl rfl (vinp 56 (draw_in (p_z (((p_lv d i4).2) 2)) (n := 36) (by decide) (by decide)) (by decide) (by decide)) (mct G (mpg (upd (upd (upd ((p_lv d i4).2) 2 (p_z (((p_lv d i4).2) 2))) 2 (p_z ((upd ((p_lv d i4).2) 2 (p_z (((p_lv d i4).2) 2))) 2))) (56 + ix (rm (ush (p_z (((p_lv d i4).2) 2)) 8) 36)) (rm (ush (p_z ((upd ((p_lv d i4).2) 2 (p_z (((p_lv d i4).2) 2))) 2)) 8) 50)) kp as bf sc fd tp it ws sz nu mv)) (mu mp1 (mst (ixp 56 (draw_in (p_z (((p_lv d i4).2) 2)) (n := 36) (by decide) (by decide)) (by decide)))) dX13_leaves_71 (fun H locs hC => ?_)
          refine lv_iload_n hx hb dX13_leaves_72 rfl (lv_at hl 3 rfl) ?_
          refine lv_aload_n hx hb dX13_leaves_73 rfl (lv_at hl 1 rfl) ?_
          refine fc_V (As := []) (rest := [.int ((p_lv d i4).1)]) hx hb hml hown hts hX hC (m_X13_hears (hw.lv i4).leaf) (lw_V q1535 q1537 qs72 q124 q1538) hdV_X13_hears ⟨rfl, rfl⟩ ⟨Nat.le_of_ble_eq_true rfl, Nat.le_of_ble_eq_true rfl⟩ (fx_recv (g := 0) (i := 0) (ci := 0) (q := (RX13, TX13, 24)) hX hC (min_ (by decide)) rfl rfl) hl.1 rfl (Nat.le_of_ble_eq_true rfl) ⟨Nat.zero_le _, Nat.zero_le _⟩ dX13_leaves_74 (fun _ H locs hC => ?_)
          refine W.eq (g2 := F0 m 77 ls [.int (b2i (p_hears (upd (upd (upd ((p_lv d i4).2) 2 (p_z (((p_lv d i4).2) 2))) 2 (p_z ((upd ((p_lv d i4).2) 2 (p_z (((p_lv d i4).2) 2))) 2))) (56 + ix (rm (ush (p_z (((p_lv d i4).2) 2)) 8) 36)) (rm (ush (p_z ((upd ((p_lv d i4).2) 2 (p_z (((p_lv d i4).2) 2))) 2)) 8) 50)))), .int ((p_lv d i4).1)]) rfl ?_
          refine fw_joinb (C := p_hears (upd (upd (upd ((p_lv d i4).2) 2 (p_z (((p_lv d i4).2) 2))) 2 (p_z ((upd ((p_lv d i4).2) 2 (p_z (((p_lv d i4).2) 2))) 2))) (56 + ix (rm (ush (p_z (((p_lv d i4).2) 2)) 8) 36)) (rm (ush (p_z ((upd ((p_lv d i4).2) 2 (p_z (((p_lv d i4).2) 2))) 2)) 8) 50))) (pcj := 85) (ls := ls) (rest := [.int ((p_lv d i4).1)]) (fun ja jb => ?_) ?_
          · refine fb_eq (tgt := 84) hx hb dX13_leaves_77 (by decide) (fun c_10 => ?_) (fun c_10 => ?_)
            · refine lv_iconst (v := 0) hx hb dX13_leaves_84 rfl ?_
              exact jb c_10
            · refine lv_iconst (v := 1) hx hb dX13_leaves_80 rfl ?_
              refine lv_goto (tgt := 85) hx hb dX13_leaves_81 (by decide) ?_
              exact ja c_10
          refine lv_iadd hx hb dX13_leaves_85 ?_
          refine lv_istore_n (lv' := [(2, .int (((p_lv d i4).1) + (b2i (p_hears (upd (upd (upd ((p_lv d i4).2) 2 (p_z (((p_lv d i4).2) 2))) 2 (p_z ((upd ((p_lv d i4).2) 2 (p_z (((p_lv d i4).2) 2))) 2))) (56 + ix (rm (ush (p_z (((p_lv d i4).2) 2)) 8) 36)) (rm (ush (p_z ((upd ((p_lv d i4).2) 2 (p_z (((p_lv d i4).2) 2))) 2)) 8) 50)))))), (4, .int (rm (ush (p_z (((p_lv d i4).2) 2)) 8) 36)), (0, .ref (G.ad 0 0)), (1, .int n), (3, .int (nI i4))]) hx hb dX13_leaves_86 rfl hl (by decide) rfl (fun ls hl => ?_)
          refine lv_aload_n hx hb dX13_leaves_87 rfl (lv_at hl 2 rfl) ?_
          refine fc_V (As := []) (rest := []) hx hb hml hown hts hX hC (m_X13_tick (hw.lv i4).leaf) (lw_V q1498 q1500 qs69 q124 q1501) hdV_X13_tick ⟨rfl, rfl⟩ ⟨Nat.le_of_ble_eq_true rfl, Nat.le_of_ble_eq_true rfl⟩ (fx_recv (g := 0) (i := 0) (ci := 0) (q := (RX13, TX13, 24)) hX hC (min_ (by decide)) rfl rfl) hl.1 rfl (Nat.le_of_ble_eq_true rfl) ⟨Nat.zero_le _, Nat.zero_le _⟩ dX13_leaves_88 (fun _ H locs hC => ?_)
          refine W.eq (g2 := F0 m 91 ls []) rfl ?_
          refine lv_iinc (v := nI (i4 + 1)) (lv' := [(3, .int (nI (i4 + 1))), (2, .int (((p_lv d i4).1) + (b2i (p_hears (upd (upd (upd ((p_lv d i4).2) 2 (p_z (((p_lv d i4).2) 2))) 2 (p_z ((upd ((p_lv d i4).2) 2 (p_z (((p_lv d i4).2) 2))) 2))) (56 + ix (rm (ush (p_z (((p_lv d i4).2) 2)) 8) 36)) (rm (ush (p_z ((upd ((p_lv d i4).2) 2 (p_z (((p_lv d i4).2) 2))) 2)) 8) 50)))))), (4, .int (rm (ush (p_z (((p_lv d i4).2) 2)) 8) 36)), (0, .ref (G.ad 0 0)), (1, .int n)]) hx hb dX13_leaves_91 hl (k := 4) rfl (nI_1 _) (by decide) rfl (fun ls hl => ?_)
          refine lv_goto (tgt := 41) hx hb dX13_leaves_94 (by decide) ?_
          exact ih4 (i4 + 1) (by omega) _ _ hC ls (lv_sub hl [3, 4, 1, 0] rfl)
      exact L_4 (ix n) 0 (by omega) _ _ hC ls (lv_sub hl [2, 3, 1, 0] rfl)
    · refine lv_aload_n hx hb dX13_leaves_30 rfl (lv_at hl 0 rfl) ?_
      refine lv_ldc (v := (-1000005)) hx hb hown (hts _ q1521) dX13_leaves_31 ?_
      refine fc_V (As := [.int (-1000005)]) (rest := []) hx hb hml hown hts hX hC (m_X13_finding 4 (vin_b rfl)) (lw_V q1404 q1406 qs56 q124 q1407) hdV_X13_finding ⟨rfl, rfl⟩ ⟨Nat.le_of_ble_eq_true rfl, Nat.le_of_ble_eq_true rfl⟩ (fx_recv (g := 0) (i := 0) (ci := 0) (q := (RX13, TX13, 24)) hX hC (min_ (by decide)) rfl rfl) hl.1 rfl (Nat.le_of_ble_eq_true rfl) ⟨Nat.zero_le _, Nat.zero_le _⟩ dX13_leaves_33 (fun _ H locs hC => ?_)
      refine W.eq (g2 := F0 m 36 ls [.int (-1000005)]) rfl ?_
      have hs : s_leaves d fd n = (((-1000005), d, p_find fd 4) : Int32 × Row × Row) := by rw [s_leaves, if_pos c_2, if_pos c_3]
      exact fr_i hx hb hr hlocks hX hC () (congrArg (fun z => some (Value.int z)) (t3_1 hs)) ((congrArg (fun z => mct G (mpg z kp as bf sc ((s_leaves d fd n).2.2) tp it ws sz nu mv)) (t3_2 hs)).trans (congrArg (fun z => mct G (mpg d kp as bf sc z tp it ws sz nu mv)) (t3_3 hs))).symm dX13_leaves_36
  · refine lv_aload_n hx hb dX13_leaves_10 rfl (lv_at hl 0 rfl) ?_
    refine lv_ldc (v := (-1000001)) hx hb hown (hts _ q1403) dX13_leaves_11 ?_
    refine fc_V (As := [.int (-1000001)]) (rest := []) hx hb hml hown hts hX hC (m_X13_finding 0 (vin_b rfl)) (lw_V q1404 q1406 qs56 q124 q1407) hdV_X13_finding ⟨rfl, rfl⟩ ⟨Nat.le_of_ble_eq_true rfl, Nat.le_of_ble_eq_true rfl⟩ (fx_recv (g := 0) (i := 0) (ci := 0) (q := (RX13, TX13, 24)) hX hC (min_ (by decide)) rfl rfl) hl.1 rfl (Nat.le_of_ble_eq_true rfl) ⟨Nat.zero_le _, Nat.zero_le _⟩ dX13_leaves_13 (fun _ H locs hC => ?_)
    refine W.eq (g2 := F0 m 16 ls [.int (-1000001)]) rfl ?_
    have hs : s_leaves d fd n = (((-1000001), d, p_find fd 0) : Int32 × Row × Row) := by rw [s_leaves, if_neg c_2]
    exact fr_i hx hb hr hlocks hX hC () (congrArg (fun z => some (Value.int z)) (t3_1 hs)) ((congrArg (fun z => mct G (mpg z kp as bf sc ((s_leaves d fd n).2.2) tp it ws sz nu mv)) (t3_2 hs)).trans (congrArg (fun z => mct G (mpg d kp as bf sc z tp it ws sz nu mv)) (t3_3 hs))).symm dX13_leaves_16
set_option maxRecDepth 100000 in
theorem m_X13_odds {l : Launch} {G : Gm} {d kp as bf sc fd tp it ws sz nu mv : Row} (n what : Int32) : Cm l yX13_odds (ws_ yX13_odds cX13_odds 9 (some .long)) ({ frames := 1, cells := 0, slots := 0, locals := 22 }) (mF G) [.ref (G.ad 0 0), .int n, .int what] (mct G (mpg d kp as bf sc fd tp it ws sz nu mv)) (fun _ : Unit => some (.long ((s_odds d fd n what).1))) (fun _ => mct G (mpg d kp as bf sc ((s_odds d fd n what).2) tp it ws sz nu mv)) := by
  refine Cm.start (by decide) (Nat.le_of_ble_eq_true rfl) ?_
  intro p e s m below meth c hf hX hC ls hl
  obtain ⟨hx, hb, hr, hml, hown, hts, hlocks⟩ := hf
  have hl : lv_has ls 9 [(0, .ref (G.ad 0 0)), (1, .int n), (2, .int what)] := hl
  have hown : s.vm.findClass "OwlEarsModel" = some m.cls := hown
  refine lv_iload_n hx hb dX13_odds_0 rfl (lv_at hl 1 rfl) ?_
  refine lv_iconst (v := 0) hx hb dX13_odds_1 rfl ?_
  refine lv_bipush (v := 11) hx hb dX13_odds_2 rfl ?_
  refine fc_S (As := [.int n, .int 0, .int 11]) (rest := []) hx hb hml hown hts hX hC (m_X13_within n 0 11) (lw_S q1390 q1391 q124 q1392) hdS_X13_within ⟨rfl, rfl⟩ ⟨Nat.le_of_ble_eq_true rfl, Nat.le_of_ble_eq_true rfl⟩ hl.1 rfl (Nat.le_of_ble_eq_true rfl) ⟨Nat.zero_le _, Nat.zero_le _⟩ dX13_odds_4 (fun _ H locs hC => ?_)
  refine W.eq (g2 := F0 m 7 ls [.int (b2i (p_in n 0 11))]) rfl ?_
  refine fb_eq (tgt := 19) hx hb dX13_odds_7 (by decide) (fun c_2 => ?_) (fun c_2 => ?_)
  · refine lv_aload_n hx hb dX13_odds_19 rfl (lv_at hl 0 rfl) ?_
    refine lv_ldc (v := (-1000001)) hx hb hown (hts _ q1403) dX13_odds_20 ?_
    refine fc_V (As := [.int (-1000001)]) (rest := []) hx hb hml hown hts hX hC (m_X13_finding 0 (vin_b rfl)) (lw_V q1404 q1406 qs56 q124 q1407) hdV_X13_finding ⟨rfl, rfl⟩ ⟨Nat.le_of_ble_eq_true rfl, Nat.le_of_ble_eq_true rfl⟩ (fx_recv (g := 0) (i := 0) (ci := 0) (q := (RX13, TX13, 24)) hX hC (min_ (by decide)) rfl rfl) hl.1 rfl (Nat.le_of_ble_eq_true rfl) ⟨Nat.zero_le _, Nat.zero_le _⟩ dX13_odds_22 (fun _ H locs hC => ?_)
    refine W.eq (g2 := F0 m 25 ls [.int (-1000001)]) rfl ?_
    refine lv_i2l (v := ((-1000001) : Int32).toInt64) hx hb dX13_odds_25 rfl ?_
    have hs : s_odds d fd n what = ((((-1000001) : Int32).toInt64, p_find fd 0) : Int64 × Row) := by rw [s_odds, if_neg (fun z => c_2 z.1)]
    exact fr_l hx hb hr hlocks hX hC () (congrArg (fun z => some (Value.long z)) (t2_1 hs)) (congrArg (fun z => mct G (mpg d kp as bf sc z tp it ws sz nu mv)) (t2_2 hs)).symm dX13_odds_26
  · refine lv_iload_n hx hb dX13_odds_10 rfl (lv_at hl 2 rfl) ?_
    refine lv_iconst (v := 0) hx hb dX13_odds_11 rfl ?_
    refine lv_iconst (v := 1) hx hb dX13_odds_12 rfl ?_
    refine fc_S (As := [.int what, .int 0, .int 1]) (rest := []) hx hb hml hown hts hX hC (m_X13_within what 0 1) (lw_S q1390 q1391 q124 q1392) hdS_X13_within ⟨rfl, rfl⟩ ⟨Nat.le_of_ble_eq_true rfl, Nat.le_of_ble_eq_true rfl⟩ hl.1 rfl (Nat.le_of_ble_eq_true rfl) ⟨Nat.zero_le _, Nat.zero_le _⟩ dX13_odds_13 (fun _ H locs hC => ?_)
    refine W.eq (g2 := F0 m 16 ls [.int (b2i (p_in what 0 1))]) rfl ?_
    refine fb_ne (tgt := 27) hx hb dX13_odds_16 (by decide) (fun c_4 => ?_) (fun c_4 => ?_)
    · refine lv_iconst (v := 0) hx hb dX13_odds_27 rfl ?_
      refine lv_istore_n (lv' := [(3, .int 0), (0, .ref (G.ad 0 0)), (1, .int n), (2, .int what)]) hx hb dX13_odds_28 rfl hl (by decide) rfl (fun ls hl => ?_)
      refine lv_iconst (v := 0) hx hb dX13_odds_29 rfl ?_
      refine lv_istore (lv' := [(4, .int 0), (3, .int 0), (0, .ref (G.ad 0 0)), (1, .int n), (2, .int what)]) hx hb dX13_odds_30 hl (by decide) rfl (fun ls hl => ?_)
      have L_5 : ∀ (k5 i5 : Nat), i5 + k5 = 36 → ∀ (H : Heap) (locs : List Loc), fC (mF G) (mct G (mpg d kp as bf sc fd tp it ws sz nu mv)) s.heap H locs → ∀ ls : Array Slot, lv_has ls 9 [(0, .ref (G.ad 0 0)), (1, .int n), (2, .int what), (3, .int (p_sum (fun k => if d (56 + k) = 0 then 1 else 0) i5)), (4, .int (nI i5))] → WG p l e ({ frames := 1, cells := 0, slots := 0, locals := 22 }) s m (([.ref (G.ad 0 0), .int n, .int what] : List Value).toArray) below meth c H locs (mF G) (fun _ : Unit => some (.long ((s_odds d fd n what).1))) (fun _ => mct G (mpg d kp as bf sc ((s_odds d fd n what).2) tp it ws sz nu mv)) (F0 m 32 ls []) := by
        intro k5
        induction k5 with
        | zero =>
          intro i5 hi5 H locs hC ls hl
          obtain rfl : i5 = 36 := by omega
          refine lv_iload hx hb dX13_odds_32 (lv_at hl 4 rfl) ?_
          refine lv_bipush (v := 36) hx hb dX13_odds_34 rfl ?_
          refine fj_ge (tgt := 66) hx hb dX13_odds_36 (by decide) (fun _ => ?_) (fun z_6 => absurd z_6 (nlt_ix (n := 36)))
          rw [p_sum_cnt] at hl
          have hl : lv_has ls 9 [(0, .ref (G.ad 0 0)), (1, .int n), (2, .int what), (3, .int (nI ((p_above d)))), (4, .int (nI 36))] := hl
          refine lv_bipush (v := 36) hx hb dX13_odds_66 rfl ?_
          refine lv_istore (lv' := [(4, .int 36), (0, .ref (G.ad 0 0)), (1, .int n), (2, .int what), (3, .int (nI ((p_above d))))]) hx hb dX13_odds_68 hl (by decide) rfl (fun ls hl => ?_)
          refine lv_iload_n hx hb dX13_odds_70 rfl (lv_at hl 4 rfl) ?_
          refine lv_istore (lv' := [(5, .int (nI ((p_above d)))), (4, .int 36), (0, .ref (G.ad 0 0)), (1, .int n), (2, .int what), (3, .int (nI ((p_above d))))]) hx hb dX13_odds_71 hl (by decide) rfl (fun ls hl => ?_)
          have L_7 : ∀ (k7 a7 b7 : Nat), b7 ≤ k7 → a7 ≤ 36 → b7 ≤ 36 → Nat.gcd a7 b7 = Nat.gcd (p_above d) 36 → ∀ ls : Array Slot, lv_has ls 9 [(5, .int (nI b7)), (4, .int (nI a7)), (0, .ref (G.ad 0 0)), (1, .int n), (2, .int what), (3, .int (nI ((p_above d))))] → WG p l e ({ frames := 1, cells := 0, slots := 0, locals := 22 }) s m (([.ref (G.ad 0 0), .int n, .int what] : List Value).toArray) below meth c H locs (mF G) (fun _ : Unit => some (.long ((s_odds d fd n what).1))) (fun _ => mct G (mpg d kp as bf sc ((s_odds d fd n what).2) tp it ws sz nu mv)) (F0 m 73 ls []) := by
            intro k7
            induction k7 with
            | zero =>
              intro a7 b7 hk ha hb9 hg ls hl
              obtain rfl : b7 = 0 := by omega
              rw [Nat.gcd_zero_right] at hg
              rw [show a7 = Nat.gcd (p_above d) 36 from hg] at hl
              refine lv_iload hx hb dX13_odds_73 (lv_at hl 0 rfl) ?_
              refine lv_if_eq (tgt := 96) hx hb dX13_odds_75 (by decide) (fun _ => ?_) (fun z_8 => absurd nI_0 z_8)
              refine lv_lconst (v := 1) hx hb dX13_odds_96 rfl ?_
              refine lv_lstore (lv' := [(6, .long 1), (5, .int (nI 0)), (4, .int (nI (Nat.gcd (p_above d) 36))), (0, .ref (G.ad 0 0)), (1, .int n), (2, .int what), (3, .int (nI ((p_above d))))]) hx hb dX13_odds_97 hl (by decide) rfl (fun ls hl => ?_)
              refine lv_iconst (v := 0) hx hb dX13_odds_99 rfl ?_
              refine lv_istore (lv' := [(8, .int 0), (6, .long 1), (5, .int (nI 0)), (4, .int (nI (Nat.gcd (p_above d) 36))), (0, .ref (G.ad 0 0)), (1, .int n), (2, .int what), (3, .int (nI ((p_above d))))]) hx hb dX13_odds_100 hl (by decide) rfl (fun ls hl => ?_)
              have L_9 : ∀ (k9 i9 : Nat), i9 + k9 = ix n → ∀ (H : Heap) (locs : List Loc), fC (mF G) (mct G (mpg d kp as bf sc fd tp it ws sz nu mv)) s.heap H locs → ∀ ls : Array Slot, lv_has ls 9 [(0, .ref (G.ad 0 0)), (1, .int n), (2, .int what), (3, .int (nI ((p_above d)))), (4, .int (nI (Nat.gcd (p_above d) 36))), (6, .long (p_pow ((if what = 0 then nI (p_above d) else 36) / nI (Nat.gcd (p_above d) 36)).toInt64 i9)), (8, .int (nI i9))] → WG p l e ({ frames := 1, cells := 0, slots := 0, locals := 22 }) s m (([.ref (G.ad 0 0), .int n, .int what] : List Value).toArray) below meth c H locs (mF G) (fun _ : Unit => some (.long ((s_odds d fd n what).1))) (fun _ => mct G (mpg d kp as bf sc ((s_odds d fd n what).2) tp it ws sz nu mv)) (F0 m 102 ls []) := by
                intro k9
                induction k9 with
                | zero =>
                  intro i9 hi9 H locs hC ls hl
                  obtain rfl : i9 = ix n := by omega
                  refine lv_iload hx hb dX13_odds_102 (lv_at hl 6 rfl) ?_
                  refine lv_iload_n hx hb dX13_odds_104 rfl (lv_at hl 1 rfl) ?_
                  refine fj_ge (tgt := 133) hx hb dX13_odds_105 (by decide) (fun _ => ?_) (fun z_10 => absurd z_10 (nlt_ix (n := n)))
                  refine lv_lload hx hb dX13_odds_133 (lv_at hl 5 rfl) ?_
                  have hs : s_odds d fd n what = ((p_pow ((if what = 0 then nI (p_above d) else 36) / nI (Nat.gcd (p_above d) 36)).toInt64 (ix n), fd) : Int64 × Row) := by rw [s_odds, if_pos ⟨c_2, c_4⟩]
                  exact fr_l hx hb hr hlocks hX hC () (congrArg (fun z => some (Value.long z)) (t2_1 hs)) (congrArg (fun z => mct G (mpg d kp as bf sc z tp it ws sz nu mv)) (t2_2 hs)).symm dX13_odds_135
                | succ k9 ih9 =>
                  intro i9 hi9 H locs hC ls hl
                  have hz9 : i9 < 2147483648 := by have := ix_lt n; omega
                  refine lv_iload hx hb dX13_odds_102 (lv_at hl 6 rfl) ?_
                  refine lv_iload_n hx hb dX13_odds_104 rfl (lv_at hl 1 rfl) ?_
                  refine fj_ge (tgt := 133) hx hb dX13_odds_105 (by decide) (fun z_11 => absurd (lt_ix (n := n) (show i9 < ix n by omega)) z_11) (fun _ => ?_)
                  refine lv_lload hx hb dX13_odds_108 (lv_at hl 5 rfl) ?_
                  refine lv_iload_n hx hb dX13_odds_110 rfl (lv_at hl 2 rfl) ?_
                  refine fw_join (C := what = 0) (a := nI ((p_above d))) (b := 36) (pcj := 120) (ls := ls) (rest := [.long (p_pow ((if what = 0 then nI (p_above d) else 36) / nI (Nat.gcd (p_above d) 36)).toInt64 i9)]) (fun ja jb => ?_) ?_
                  · refine lv_if_ne (tgt := 118) hx hb dX13_odds_111 (by decide) (fun c_12 => ?_) (fun c_12 => ?_)
                    · refine lv_bipush (v := 36) hx hb dX13_odds_118 rfl ?_
                      exact jb c_12
                    · refine lv_iload_n hx hb dX13_odds_114 rfl (lv_at hl 3 rfl) ?_
                      refine lv_goto (tgt := 120) hx hb dX13_odds_115 (by decide) ?_
                      exact ja c_12
                  refine lv_iload hx hb dX13_odds_120 (lv_at hl 4 rfl) ?_
                  refine lv_idiv hx hb dX13_odds_122 (nI_ne0 (gcd36 _).1 (by have := (gcd36 (p_above d)).2; omega)) ?_
                  refine lv_i2l (v := ((if what = 0 then nI ((p_above d)) else 36) / (nI (Nat.gcd (p_above d) 36))).toInt64) hx hb dX13_odds_123 rfl ?_
                  refine lv_lmul hx hb dX13_odds_124 ?_
                  refine lv_lstore (lv' := [(6, .long ((p_pow ((if what = 0 then nI (p_above d) else 36) / nI (Nat.gcd (p_above d) 36)).toInt64 i9) * (((if what = 0 then nI ((p_above d)) else 36) / (nI (Nat.gcd (p_above d) 36))).toInt64))), (0, .ref (G.ad 0 0)), (1, .int n), (2, .int what), (3, .int (nI ((p_above d)))), (4, .int (nI (Nat.gcd (p_above d) 36))), (8, .int (nI i9))]) hx hb dX13_odds_125 hl (by decide) rfl (fun ls hl => ?_)
                  refine lv_iinc (v := nI (i9 + 1)) (lv' := [(8, .int (nI (i9 + 1))), (6, .long ((p_pow ((if what = 0 then nI (p_above d) else 36) / nI (Nat.gcd (p_above d) 36)).toInt64 i9) * (((if what = 0 then nI ((p_above d)) else 36) / (nI (Nat.gcd (p_above d) 36))).toInt64))), (0, .ref (G.ad 0 0)), (1, .int n), (2, .int what), (3, .int (nI ((p_above d)))), (4, .int (nI (Nat.gcd (p_above d) 36)))]) hx hb dX13_odds_127 hl (k := 6) rfl (nI_1 _) (by decide) rfl (fun ls hl => ?_)
                  refine lv_goto (tgt := 102) hx hb dX13_odds_130 (by decide) ?_
                  exact ih9 (i9 + 1) (by omega) _ _ hC ls (lv_sub hl [2, 3, 4, 5, 6, 1, 0] rfl)
              exact L_9 (ix n) 0 (by omega) _ _ hC ls (lv_sub hl [4, 5, 6, 7, 3, 1, 0] rfl)
            | succ k7 ih7 =>
              intro a7 b7 hk ha hb9 hg ls hl
              by_cases hz : b7 = 0
              · obtain rfl : b7 = 0 := by omega
                rw [Nat.gcd_zero_right] at hg
                rw [show a7 = Nat.gcd (p_above d) 36 from hg] at hl
                refine lv_iload hx hb dX13_odds_73 (lv_at hl 0 rfl) ?_
                refine lv_if_eq (tgt := 96) hx hb dX13_odds_75 (by decide) (fun _ => ?_) (fun z_13 => absurd nI_0 z_13)
                refine lv_lconst (v := 1) hx hb dX13_odds_96 rfl ?_
                refine lv_lstore (lv' := [(6, .long 1), (5, .int (nI 0)), (4, .int (nI (Nat.gcd (p_above d) 36))), (0, .ref (G.ad 0 0)), (1, .int n), (2, .int what), (3, .int (nI ((p_above d))))]) hx hb dX13_odds_97 hl (by decide) rfl (fun ls hl => ?_)
                refine lv_iconst (v := 0) hx hb dX13_odds_99 rfl ?_
                refine lv_istore (lv' := [(8, .int 0), (6, .long 1), (5, .int (nI 0)), (4, .int (nI (Nat.gcd (p_above d) 36))), (0, .ref (G.ad 0 0)), (1, .int n), (2, .int what), (3, .int (nI ((p_above d))))]) hx hb dX13_odds_100 hl (by decide) rfl (fun ls hl => ?_)
                have L_14 : ∀ (k14 i14 : Nat), i14 + k14 = ix n → ∀ (H : Heap) (locs : List Loc), fC (mF G) (mct G (mpg d kp as bf sc fd tp it ws sz nu mv)) s.heap H locs → ∀ ls : Array Slot, lv_has ls 9 [(0, .ref (G.ad 0 0)), (1, .int n), (2, .int what), (3, .int (nI ((p_above d)))), (4, .int (nI (Nat.gcd (p_above d) 36))), (6, .long (p_pow ((if what = 0 then nI (p_above d) else 36) / nI (Nat.gcd (p_above d) 36)).toInt64 i14)), (8, .int (nI i14))] → WG p l e ({ frames := 1, cells := 0, slots := 0, locals := 22 }) s m (([.ref (G.ad 0 0), .int n, .int what] : List Value).toArray) below meth c H locs (mF G) (fun _ : Unit => some (.long ((s_odds d fd n what).1))) (fun _ => mct G (mpg d kp as bf sc ((s_odds d fd n what).2) tp it ws sz nu mv)) (F0 m 102 ls []) := by
                  intro k14
                  induction k14 with
                  | zero =>
                    intro i14 hi14 H locs hC ls hl
                    obtain rfl : i14 = ix n := by omega
                    refine lv_iload hx hb dX13_odds_102 (lv_at hl 6 rfl) ?_
                    refine lv_iload_n hx hb dX13_odds_104 rfl (lv_at hl 1 rfl) ?_
                    refine fj_ge (tgt := 133) hx hb dX13_odds_105 (by decide) (fun _ => ?_) (fun z_15 => absurd z_15 (nlt_ix (n := n)))
                    refine lv_lload hx hb dX13_odds_133 (lv_at hl 5 rfl) ?_
                    have hs : s_odds d fd n what = ((p_pow ((if what = 0 then nI (p_above d) else 36) / nI (Nat.gcd (p_above d) 36)).toInt64 (ix n), fd) : Int64 × Row) := by rw [s_odds, if_pos ⟨c_2, c_4⟩]
                    exact fr_l hx hb hr hlocks hX hC () (congrArg (fun z => some (Value.long z)) (t2_1 hs)) (congrArg (fun z => mct G (mpg d kp as bf sc z tp it ws sz nu mv)) (t2_2 hs)).symm dX13_odds_135
                  | succ k14 ih14 =>
                    intro i14 hi14 H locs hC ls hl
                    have hz14 : i14 < 2147483648 := by have := ix_lt n; omega
                    refine lv_iload hx hb dX13_odds_102 (lv_at hl 6 rfl) ?_
                    refine lv_iload_n hx hb dX13_odds_104 rfl (lv_at hl 1 rfl) ?_
                    refine fj_ge (tgt := 133) hx hb dX13_odds_105 (by decide) (fun z_16 => absurd (lt_ix (n := n) (show i14 < ix n by omega)) z_16) (fun _ => ?_)
                    refine lv_lload hx hb dX13_odds_108 (lv_at hl 5 rfl) ?_
                    refine lv_iload_n hx hb dX13_odds_110 rfl (lv_at hl 2 rfl) ?_
                    refine fw_join (C := what = 0) (a := nI ((p_above d))) (b := 36) (pcj := 120) (ls := ls) (rest := [.long (p_pow ((if what = 0 then nI (p_above d) else 36) / nI (Nat.gcd (p_above d) 36)).toInt64 i14)]) (fun ja jb => ?_) ?_
                    · refine lv_if_ne (tgt := 118) hx hb dX13_odds_111 (by decide) (fun c_17 => ?_) (fun c_17 => ?_)
                      · refine lv_bipush (v := 36) hx hb dX13_odds_118 rfl ?_
                        exact jb c_17
                      · refine lv_iload_n hx hb dX13_odds_114 rfl (lv_at hl 3 rfl) ?_
                        refine lv_goto (tgt := 120) hx hb dX13_odds_115 (by decide) ?_
                        exact ja c_17
                    refine lv_iload hx hb dX13_odds_120 (lv_at hl 4 rfl) ?_
                    refine lv_idiv hx hb dX13_odds_122 (nI_ne0 (gcd36 _).1 (by have := (gcd36 (p_above d)).2; omega)) ?_
                    refine lv_i2l (v := ((if what = 0 then nI ((p_above d)) else 36) / (nI (Nat.gcd (p_above d) 36))).toInt64) hx hb dX13_odds_123 rfl ?_
                    refine lv_lmul hx hb dX13_odds_124 ?_
                    refine lv_lstore (lv' := [(6, .long ((p_pow ((if what = 0 then nI (p_above d) else 36) / nI (Nat.gcd (p_above d) 36)).toInt64 i14) * (((if what = 0 then nI ((p_above d)) else 36) / (nI (Nat.gcd (p_above d) 36))).toInt64))), (0, .ref (G.ad 0 0)), (1, .int n), (2, .int what), (3, .int (nI ((p_above d)))), (4, .int (nI (Nat.gcd (p_above d) 36))), (8, .int (nI i14))]) hx hb dX13_odds_125 hl (by decide) rfl (fun ls hl => ?_)
                    refine lv_iinc (v := nI (i14 + 1)) (lv' := [(8, .int (nI (i14 + 1))), (6, .long ((p_pow ((if what = 0 then nI (p_above d) else 36) / nI (Nat.gcd (p_above d) 36)).toInt64 i14) * (((if what = 0 then nI ((p_above d)) else 36) / (nI (Nat.gcd (p_above d) 36))).toInt64))), (0, .ref (G.ad 0 0)), (1, .int n), (2, .int what), (3, .int (nI ((p_above d)))), (4, .int (nI (Nat.gcd (p_above d) 36)))]) hx hb dX13_odds_127 hl (k := 6) rfl (nI_1 _) (by decide) rfl (fun ls hl => ?_)
                    refine lv_goto (tgt := 102) hx hb dX13_odds_130 (by decide) ?_
                    exact ih14 (i14 + 1) (by omega) _ _ hC ls (lv_sub hl [2, 3, 4, 5, 6, 1, 0] rfl)
                exact L_14 (ix n) 0 (by omega) _ _ hC ls (lv_sub hl [4, 5, 6, 7, 3, 1, 0] rfl)
              · refine lv_iload hx hb dX13_odds_73 (lv_at hl 0 rfl) ?_
                refine lv_if_eq (tgt := 96) hx hb dX13_odds_75 (by decide) (fun z_18 => absurd z_18 (nI_ne0 (n := b7) (by omega) (by omega))) (fun _ => ?_)
                refine lv_iload hx hb dX13_odds_78 (lv_at hl 1 rfl) ?_
                refine lv_iload hx hb dX13_odds_80 (lv_at hl 0 rfl) ?_
                refine fw_irem hx hb dX13_odds_82 (nI_ne0 (by omega) (by omega)) ?_
                refine lv_istore (lv' := [(6, .int (rm (nI a7) (nI b7))), (5, .int (nI b7)), (4, .int (nI a7)), (0, .ref (G.ad 0 0)), (1, .int n), (2, .int what), (3, .int (nI ((p_above d))))]) hx hb dX13_odds_83 hl (by decide) rfl (fun ls hl => ?_)
                refine lv_iload hx hb dX13_odds_85 (lv_at hl 1 rfl) ?_
                refine lv_istore (lv' := [(4, .int (nI b7)), (6, .int (rm (nI a7) (nI b7))), (5, .int (nI b7)), (0, .ref (G.ad 0 0)), (1, .int n), (2, .int what), (3, .int (nI ((p_above d))))]) hx hb dX13_odds_87 hl (by decide) rfl (fun ls hl => ?_)
                refine lv_iload hx hb dX13_odds_89 (lv_at hl 1 rfl) ?_
                refine lv_istore (lv' := [(5, .int (rm (nI a7) (nI b7))), (4, .int (nI b7)), (6, .int (rm (nI a7) (nI b7))), (0, .ref (G.ad 0 0)), (1, .int n), (2, .int what), (3, .int (nI ((p_above d))))]) hx hb dX13_odds_91 hl (by decide) rfl (fun ls hl => ?_)
                refine lv_goto (tgt := 73) hx hb dX13_odds_93 (by decide) ?_
                rw [rm_nI (a := a7) (b := b7) (by omega) (by omega)] at hl
                exact ih7 b7 (a7 % b7) (by have := Nat.mod_lt a7 (show b7 > 0 by omega); omega) (by omega) (by have := Nat.mod_lt a7 (show b7 > 0 by omega); omega) (by rw [← hg, Nat.gcd_comm a7 b7, Nat.gcd_rec b7 a7, Nat.gcd_comm]) ls (lv_sub hl [0, 1, 3, 4, 5, 6] rfl)
          exact L_7 36 _ _ (above_le d) (by decide) (above_le d) (Nat.gcd_comm _ _) ls (lv_sub hl [0, 1, 2, 3, 4, 5] rfl)
        | succ k5 ih5 =>
          intro i5 hi5 H locs hC ls hl
          refine lv_iload hx hb dX13_odds_32 (lv_at hl 4 rfl) ?_
          refine lv_bipush (v := 36) hx hb dX13_odds_34 rfl ?_
          refine fj_ge (tgt := 66) hx hb dX13_odds_36 (by decide) (fun z_19 => absurd (lt_ix (n := 36) (show i5 < 36 by omega)) z_19) (fun _ => ?_)
          refine lv_iload_n hx hb dX13_odds_39 rfl (lv_at hl 3 rfl) ?_
          refine lv_aload_n hx hb dX13_odds_40 rfl (lv_at hl 0 rfl) ?_
          refine fg_get (C := RX13) (T := TX13) (N := 24) (ci := 0) (g := 0) (i := 0) (v := .ref (G.ad 0 1)) hx hb hown hts hX hC in_X13 rfl (min_ (by decide)) rfl 0 (by decide) q1310 (fun _ h => h) rfl dX13_odds_41 ?_
          refine lv_bipush (v := 56) hx hb dX13_odds_44 rfl ?_
          refine lv_iload hx hb dX13_odds_46 (lv_at hl 4 rfl) ?_
          refine lv_iadd hx hb dX13_odds_48 ?_
          refine fg_iald (g := 0) (i := 1) (t0 := 0) (v := d (56 + i5)) hx hb hX hC (min_ (by decide)) rfl rfl (vinp 56 (show vp_in (nI i5) 68 from vp_in_nI (show i5 < 68 by omega) (by decide)) (by decide) (by decide)) (congrArg d ((congrArg ix (nI_add 56 i5)).trans (nI_clamp (by omega)))) dX13_odds_49 ?_
          refine fw_joinb (C := (d (56 + i5)) = 0) (pcj := 58) (ls := ls) (rest := [.int (p_sum (fun k => if d (56 + k) = 0 then 1 else 0) i5)]) (fun ja jb => ?_) ?_
          · refine lv_if_ne (tgt := 57) hx hb dX13_odds_50 (by decide) (fun c_20 => ?_) (fun c_20 => ?_)
            · refine lv_iconst (v := 0) hx hb dX13_odds_57 rfl ?_
              exact jb c_20
            · refine lv_iconst (v := 1) hx hb dX13_odds_53 rfl ?_
              refine lv_goto (tgt := 58) hx hb dX13_odds_54 (by decide) ?_
              exact ja c_20
          refine lv_iadd hx hb dX13_odds_58 ?_
          refine lv_istore_n (lv' := [(3, .int ((p_sum (fun k => if d (56 + k) = 0 then 1 else 0) i5) + (b2i ((d (56 + i5)) = 0)))), (0, .ref (G.ad 0 0)), (1, .int n), (2, .int what), (4, .int (nI i5))]) hx hb dX13_odds_59 rfl hl (by decide) rfl (fun ls hl => ?_)
          refine lv_iinc (v := nI (i5 + 1)) (lv' := [(4, .int (nI (i5 + 1))), (3, .int ((p_sum (fun k => if d (56 + k) = 0 then 1 else 0) i5) + (b2i ((d (56 + i5)) = 0)))), (0, .ref (G.ad 0 0)), (1, .int n), (2, .int what)]) hx hb dX13_odds_60 hl (k := 4) rfl (nI_1 _) (by decide) rfl (fun ls hl => ?_)
          refine lv_goto (tgt := 32) hx hb dX13_odds_63 (by decide) ?_
          exact ih5 (i5 + 1) (by omega) _ _ hC ls (lv_sub hl [2, 3, 4, 1, 0] rfl)
      exact L_5 36 0 (by omega) _ _ hC ls (lv_sub hl [2, 3, 4, 1, 0] rfl)
    · refine lv_aload_n hx hb dX13_odds_19 rfl (lv_at hl 0 rfl) ?_
      refine lv_ldc (v := (-1000001)) hx hb hown (hts _ q1403) dX13_odds_20 ?_
      refine fc_V (As := [.int (-1000001)]) (rest := []) hx hb hml hown hts hX hC (m_X13_finding 0 (vin_b rfl)) (lw_V q1404 q1406 qs56 q124 q1407) hdV_X13_finding ⟨rfl, rfl⟩ ⟨Nat.le_of_ble_eq_true rfl, Nat.le_of_ble_eq_true rfl⟩ (fx_recv (g := 0) (i := 0) (ci := 0) (q := (RX13, TX13, 24)) hX hC (min_ (by decide)) rfl rfl) hl.1 rfl (Nat.le_of_ble_eq_true rfl) ⟨Nat.zero_le _, Nat.zero_le _⟩ dX13_odds_22 (fun _ H locs hC => ?_)
      refine W.eq (g2 := F0 m 25 ls [.int (-1000001)]) rfl ?_
      refine lv_i2l (v := ((-1000001) : Int32).toInt64) hx hb dX13_odds_25 rfl ?_
      have hs : s_odds d fd n what = ((((-1000001) : Int32).toInt64, p_find fd 0) : Int64 × Row) := by rw [s_odds, if_neg (fun z => c_4 z.2)]
      exact fr_l hx hb hr hlocks hX hC () (congrArg (fun z => some (Value.long z)) (t2_1 hs)) (congrArg (fun z => mct G (mpg d kp as bf sc z tp it ws sz nu mv)) (t2_2 hs)).symm dX13_odds_26
