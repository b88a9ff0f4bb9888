theorem hdV_X2_whole : yX2_whole.cls = RX2 ∧ yX2_whole.cls ≠ "java/lang/invoke/MethodHandle" ∧ yX2_whole.cls ≠ "java/lang/invoke/VarHandle" ∧ (parseMethodDescriptor yX2_whole.desc).map (fun d => d.parameters.length) = some 0 := by decide +kernel
set_option maxRecDepth 100000 in
theorem m_X0_text_T {l : Launch} {G : Gc} {d kp as un to sc fd tp sh : Row} {sp : Nat → Option Nat} (hw : WF d) {L a1 b1 : Nat} {t1 v1 n1 : Int32} {to1 : Row} (hL : L ≤ 120) (hsc : sc 0 = nI L) (hq : c_whole tp L (sc 7) (sc 8) d = ((a1, b1, t1, v1), true, n1, to1)) : Cm l yX0_text (wsW_ yX0_text cX0_text 2 (some .int) [(30, 53, 54, 361)]) ({ frames := 12, cells := 0, slots := 0, locals := 260 }) (cF G) [.ref (G.ad 5 0)] (cct G (pg d kp as un to sc fd tp sh) sp) (fun _ : Unit => some (.int n1)) (fun _ => cct G (pg to1 kp as un to1 (rd (upd sc 0 0) L a1 b1 t1 v1) fd tp sh) sp) := by
  refine Cm.startW (by decide) (Nat.le_of_ble_eq_true rfl) ?_
  intro p e s m below meth c hf hX hC ls hl
  obtain ⟨hx, hb, hr, hml, hown, hts, hlocks⟩ := hf
  have hl : lv_has ls 2 [(0, .ref (G.ad 5 0))] := hl
  have hown : s.vm.findClass "OwlEars" = some m.cls := hown
  refine lv_aload_n hx hb dX0_text_0 rfl (lv_at hl 0 rfl) ?_
  refine fg_get (C := RX0) (T := TX0) (N := 13) (ci := 1) (g := 5) (i := 0) (v := .ref (G.ad 5 2)) hx hb hown hts hX hC in_X0 rfl (cin rfl) rfl 1 (by decide) q422 (fun _ h => h) rfl dX0_text_1 ?_
  refine lv_aload_n hx hb dX0_text_4 rfl (lv_at hl 0 rfl) ?_
  refine fg_get (C := RX0) (T := TX0) (N := 13) (ci := 1) (g := 5) (i := 0) (v := .int (sc 0)) hx hb hown hts hX hC in_X0 rfl (cin rfl) rfl 2 (by decide) q423 (fun _ h => h) rfl dX0_text_5 ?_
  refine fg_putN (C := RX2) (T := TX2) (N := 8) (ci := 3) (g := 5) (i := 2) hx hb hown hts hX hC in_X2 tyX2 tyX2_ok nmX2 rfl (cin rfl) rfl 3 (by decide) (hX.2.2.1.F q291) (fun _ h => h) rfl rfl rfl (Nat.le_of_ble_eq_true rfl) (cct G (pg d kp as un to (upd sc 4 (sc 0)) fd tp sh) sp) cs_sc4 dX0_text_8 (fun H locs hC => ?_)
  refine lv_aload_n hx hb dX0_text_11 rfl (lv_at hl 0 rfl) ?_
  refine lv_iconst (v := 0) hx hb dX0_text_12 rfl ?_
  refine fg_put (C := RX0) (T := TX0) (N := 13) (ci := 1) (g := 5) (i := 0) hx hb hown hts hX hC in_X0 tyX0 tyX0_ok nmX0 rfl (cin rfl) rfl 2 (by decide) q423 (fun _ h => h) rfl rfl rfl (Nat.le_of_ble_eq_true rfl) (cct G (pg d kp as un to (upd (upd sc 4 (sc 0)) 0 0) fd tp sh) sp) cs_sc0 dX0_text_13 (fun H locs hC => ?_)
  obtain ⟨a0, b0, hab⟩ := rd_ex hsc
  have hC := (congrArg (fun z => fC (cF G) (cct G (pg d kp as un to z fd tp sh) sp) s.heap _ _) (hab)).mp hC
  refine lv_aload_n hx hb dX0_text_16 rfl (lv_at hl 0 rfl) ?_
  refine fg_get (C := RX0) (T := TX0) (N := 13) (ci := 1) (g := 5) (i := 0) (v := .ref (G.ad 5 2)) hx hb hown hts hX hC in_X0 rfl (cin rfl) rfl 1 (by decide) q422 (fun _ h => h) rfl dX0_text_17 ?_
  refine fg_getN (C := RX2) (T := TX2) (N := 8) (ci := 3) (g := 5) (i := 2) (v := .ref (G.ad 4 0)) hx hb hown hts hX hC in_X2 rfl (cin rfl) rfl 2 (by decide) (hX.2.2.1.F q289) (fun _ h => h) rfl dX0_text_20 ?_
  refine lv_aload_n hx hb dX0_text_23 rfl (lv_at hl 0 rfl) ?_
  refine fg_get (C := RX0) (T := TX0) (N := 13) (ci := 1) (g := 5) (i := 0) (v := .ref (G.ad 0 0)) hx hb hown hts hX hC in_X0 rfl (cin rfl) rfl 3 (by decide) q425 (fun _ h => h) rfl dX0_text_24 ?_
  refine fc_V (As := [.ref (G.ad 0 0)]) (rest := []) hx hb hml hown hts hX hC (m_X4_become_40) (lw_V q700 q701 q702 q115 q703) hdV_X4_become ⟨rfl, rfl⟩ ⟨Nat.le_of_ble_eq_true rfl, Nat.le_of_ble_eq_true rfl⟩ (fx_recv (g := 4) (i := 0) (ci := 0) (q := (RX4, TX4, 9)) hX hC (cin rfl) rfl rfl) hl.1 rfl (Nat.le_of_ble_eq_true rfl) ⟨Nat.zero_le _, Nat.zero_le _⟩ dX0_text_27 (fun _ H locs hC => ?_)
  refine W.eq (g2 := F0 m 30 ls []) rfl ?_
  refine lv_aload_n hx hb dX0_text_30 rfl (lv_at hl 0 rfl) ?_
  refine fg_get (C := RX0) (T := TX0) (N := 13) (ci := 1) (g := 5) (i := 0) (v := .ref (G.ad 5 2)) hx hb hown hts hX hC in_X0 rfl (cin rfl) rfl 1 (by decide) q422 (fun _ h => h) rfl dX0_text_31 ?_
  refine fc_V (As := []) (rest := []) hx hb hml hown hts hX hC (m_X2_whole_T (sc := upd sc 0 0) (L := L) (a := a0) (b := b0) (t := (sc 7)) (v := (sc 8)) hL hw hq) (lw_V q1067 q1068 q1069 q113 q1070) hdV_X2_whole ⟨rfl, rfl⟩ ⟨Nat.le_of_ble_eq_true rfl, Nat.le_of_ble_eq_true rfl⟩ (fx_recv (g := 5) (i := 2) (ci := 3) (q := (RX2, TX2, 8)) hX hC (cin rfl) rfl rfl) hl.1 rfl (Nat.le_of_ble_eq_true rfl) ⟨Nat.zero_le _, Nat.zero_le _⟩ dX0_text_34 (fun _ H locs hC => ?_)
  refine W.eq (g2 := F0 m 37 ls [.int n1]) rfl ?_
  refine lv_istore_n (lv' := [(1, .int n1), (0, .ref (G.ad 5 0))]) hx hb dX0_text_37 rfl hl (by decide) rfl (fun ls hl => ?_)
  refine lv_aload_n hx hb dX0_text_38 rfl (lv_at hl 1 rfl) ?_
  refine fg_get (C := RX0) (T := TX0) (N := 13) (ci := 1) (g := 5) (i := 0) (v := .ref (G.ad 0 0)) hx hb hown hts hX hC in_X0 rfl (cin rfl) rfl 3 (by decide) q425 (fun _ h => h) rfl dX0_text_39 ?_
  refine lv_aload_n hx hb dX0_text_42 rfl (lv_at hl 1 rfl) ?_
  refine fg_get (C := RX0) (T := TX0) (N := 13) (ci := 1) (g := 5) (i := 0) (v := .ref (G.ad 5 2)) hx hb hown hts hX hC in_X0 rfl (cin rfl) rfl 1 (by decide) q422 (fun _ h => h) rfl dX0_text_43 ?_
  refine fg_getN (C := RX2) (T := TX2) (N := 8) (ci := 3) (g := 5) (i := 2) (v := .ref (G.ad 4 0)) hx hb hown hts hX hC in_X2 rfl (cin rfl) rfl 2 (by decide) (hX.2.2.1.F q289) (fun _ h => h) rfl dX0_text_46 ?_
  refine fc_V (As := [.ref (G.ad 4 0)]) (rest := []) hx hb hml hown hts hX hC (m_X4_become_04) (lw_V q700 q701 q702 q115 q703) hdV_X4_become ⟨rfl, rfl⟩ ⟨Nat.le_of_ble_eq_true rfl, Nat.le_of_ble_eq_true rfl⟩ (fx_recv (g := 0) (i := 0) (ci := 0) (q := (RX4, TX4, 9)) hX hC (cin rfl) rfl rfl) hl.1 rfl (Nat.le_of_ble_eq_true rfl) ⟨Nat.zero_le _, Nat.zero_le _⟩ dX0_text_49 (fun _ H locs hC => ?_)
  refine W.eq (g2 := F0 m 52 ls []) rfl ?_
  refine lv_iload_n hx hb dX0_text_52 rfl (lv_at hl 0 rfl) ?_
  exact fr_i hx hb hr hlocks hX hC () rfl rfl dX0_text_53
set_option maxRecDepth 100000 in
theorem m_X0_text_F {l : Launch} {G : Gc} {d kp as un to sc fd tp sh : Row} {sp : Nat → Option Nat} (hw : WF d) {L a1 b1 : Nat} {t1 v1 n1 : Int32} {to1 : Row} (hL : L ≤ 120) (hsc : sc 0 = nI L) (hq : c_whole tp L (sc 7) (sc 8) d = ((a1, b1, t1, v1), false, n1, to1)) : Cm l yX0_text (wsW_ yX0_text cX0_text 2 (some .int) [(30, 53, 54, 361)]) ({ frames := 12, cells := 0, slots := 0, locals := 260 }) (cF G) [.ref (G.ad 5 0)] (cct G (pg d kp as un to sc fd tp sh) sp) (fun _ : Unit => some (.int (-1 - nI b1))) (fun _ => cct G (pg d kp as un to1 (rd (upd sc 0 0) L a1 b1 t1 v1) fd tp sh) sp) := by
  refine Cm.startH (by decide) (Nat.le_of_ble_eq_true rfl) ?_
  intro p e s m below meth c hf hE hX hC ls hl
  obtain ⟨hx, hb, hr, hml, hown, hts, hlocks⟩ := hf
  have hl : lv_has ls 2 [(0, .ref (G.ad 5 0))] := hl
  have hown : s.vm.findClass "OwlEars" = some m.cls := hown
  refine lv_aload_n hx hb dX0_text_0 rfl (lv_at hl 0 rfl) ?_
  refine fg_get (C := RX0) (T := TX0) (N := 13) (ci := 1) (g := 5) (i := 0) (v := .ref (G.ad 5 2)) hx hb hown hts hX hC in_X0 rfl (cin rfl) rfl 1 (by decide) q422 (fun _ h => h) rfl dX0_text_1 ?_
  refine lv_aload_n hx hb dX0_text_4 rfl (lv_at hl 0 rfl) ?_
  refine fg_get (C := RX0) (T := TX0) (N := 13) (ci := 1) (g := 5) (i := 0) (v := .int (sc 0)) hx hb hown hts hX hC in_X0 rfl (cin rfl) rfl 2 (by decide) q423 (fun _ h => h) rfl dX0_text_5 ?_
  refine fg_putN (C := RX2) (T := TX2) (N := 8) (ci := 3) (g := 5) (i := 2) hx hb hown hts hX hC in_X2 tyX2 tyX2_ok nmX2 rfl (cin rfl) rfl 3 (by decide) (hX.2.2.1.F q291) (fun _ h => h) rfl rfl rfl (Nat.le_of_ble_eq_true rfl) (cct G (pg d kp as un to (upd sc 4 (sc 0)) fd tp sh) sp) cs_sc4 dX0_text_8 (fun H locs hC => ?_)
  refine lv_aload_n hx hb dX0_text_11 rfl (lv_at hl 0 rfl) ?_
  refine lv_iconst (v := 0) hx hb dX0_text_12 rfl ?_
  refine fg_put (C := RX0) (T := TX0) (N := 13) (ci := 1) (g := 5) (i := 0) hx hb hown hts hX hC in_X0 tyX0 tyX0_ok nmX0 rfl (cin rfl) rfl 2 (by decide) q423 (fun _ h => h) rfl rfl rfl (Nat.le_of_ble_eq_true rfl) (cct G (pg d kp as un to (upd (upd sc 4 (sc 0)) 0 0) fd tp sh) sp) cs_sc0 dX0_text_13 (fun H locs hC => ?_)
  obtain ⟨a0, b0, hab⟩ := rd_ex hsc
  have hC := (congrArg (fun z => fC (cF G) (cct G (pg d kp as un to z fd tp sh) sp) s.heap _ _) (hab)).mp hC
  refine lv_aload_n hx hb dX0_text_16 rfl (lv_at hl 0 rfl) ?_
  refine fg_get (C := RX0) (T := TX0) (N := 13) (ci := 1) (g := 5) (i := 0) (v := .ref (G.ad 5 2)) hx hb hown hts hX hC in_X0 rfl (cin rfl) rfl 1 (by decide) q422 (fun _ h => h) rfl dX0_text_17 ?_
  refine fg_getN (C := RX2) (T := TX2) (N := 8) (ci := 3) (g := 5) (i := 2) (v := .ref (G.ad 4 0)) hx hb hown hts hX hC in_X2 rfl (cin rfl) rfl 2 (by decide) (hX.2.2.1.F q289) (fun _ h => h) rfl dX0_text_20 ?_
  refine lv_aload_n hx hb dX0_text_23 rfl (lv_at hl 0 rfl) ?_
  refine fg_get (C := RX0) (T := TX0) (N := 13) (ci := 1) (g := 5) (i := 0) (v := .ref (G.ad 0 0)) hx hb hown hts hX hC in_X0 rfl (cin rfl) rfl 3 (by decide) q425 (fun _ h => h) rfl dX0_text_24 ?_
  refine fc_V (As := [.ref (G.ad 0 0)]) (rest := []) hx hb hml hown hts hX hC (m_X4_become_40) (lw_V q700 q701 q702 q115 q703) hdV_X4_become ⟨rfl, rfl⟩ ⟨Nat.le_of_ble_eq_true rfl, Nat.le_of_ble_eq_true rfl⟩ (fx_recv (g := 4) (i := 0) (ci := 0) (q := (RX4, TX4, 9)) hX hC (cin rfl) rfl rfl) hl.1 rfl (Nat.le_of_ble_eq_true rfl) ⟨Nat.zero_le _, Nat.zero_le _⟩ dX0_text_27 (fun _ H locs hC => ?_)
  refine W.eq (g2 := F0 m 30 ls []) rfl ?_
  refine lv_aload_n hx hb dX0_text_30 rfl (lv_at hl 0 rfl) ?_
  refine fg_get (C := RX0) (T := TX0) (N := 13) (ci := 1) (g := 5) (i := 0) (v := .ref (G.ad 5 2)) hx hb hown hts hX hC in_X0 rfl (cin rfl) rfl 1 (by decide) q422 (fun _ h => h) rfl dX0_text_31 ?_
  refine fc_VT (As := []) (rest := []) hx hb hml hown hts hX hC (m_X2_whole_F (sc := upd sc 0 0) (L := L) (a := a0) (b := b0) (t := (sc 7)) (v := (sc 8)) hL hw hq) (lw_V q1067 q1068 q1069 q113 q1070) hdV_X2_whole ⟨rfl, rfl⟩ ⟨Nat.le_of_ble_eq_true rfl, Nat.le_of_ble_eq_true rfl⟩ (fx_recv (g := 5) (i := 2) (ci := 3) (q := (RX2, TX2, 8)) hX hC (cin rfl) rfl rfl) hl.1 rfl (Nat.le_of_ble_eq_true rfl) ⟨Nat.zero_le _, Nat.zero_le _⟩ dX0_text_34 (fun _ H locs hC => ?_)
  refine fx_catch (own := "OwlEars") (name := "OwlEars$Wrong") hown (hts _ q1066) hE (by decide) (by decide) (by decide) (fx_recv (g := 5) (i := 3) (ci := 4) (q := (RX3, TX3, 6)) hX hC (cin rfl) rfl rfl) ?_
  refine lv_astore_n (lv' := [(1, .ref (G.ad 5 3)), (0, .ref (G.ad 5 0))]) hx hb dX0_text_54 rfl hl (by decide) rfl (fun ls hl => ?_)
  refine lv_iconst (v := (-1)) hx hb dX0_text_55 rfl ?_
  refine lv_aload_n hx hb dX0_text_56 rfl (lv_at hl 1 rfl) ?_
  refine fg_get (C := RX0) (T := TX0) (N := 13) (ci := 1) (g := 5) (i := 0) (v := .ref (G.ad 5 2)) hx hb hown hts hX hC in_X0 rfl (cin rfl) rfl 1 (by decide) q422 (fun _ h => h) rfl dX0_text_57 ?_
  refine fg_getN (C := RX2) (T := TX2) (N := 8) (ci := 3) (g := 5) (i := 2) (v := .int (nI b1)) hx hb hown hts hX hC in_X2 rfl (cin rfl) rfl 5 (by decide) (hX.2.2.1.F q294) (fun _ h => h) rfl dX0_text_60 ?_
  refine lv_isub hx hb dX0_text_63 ?_
  exact fr_i hx hb hr hlocks hX hC () (congrArg (fun z => some (Value.int z)) (rfl)) rfl dX0_text_64
