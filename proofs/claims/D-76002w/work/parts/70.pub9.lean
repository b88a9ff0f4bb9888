theorem hdS_X0_ones : yX0_ones.cls ≠ "java/lang/invoke/MethodHandle" ∧ yX0_ones.cls ≠ "java/lang/invoke/VarHandle" ∧ (parseMethodDescriptor yX0_ones.desc).map (fun d => d.parameters.length) = some 1 := by decide +kernel
theorem hdV_X0_holding : yX0_holding.cls = RX0 ∧ yX0_holding.cls ≠ "java/lang/invoke/MethodHandle" ∧ yX0_holding.cls ≠ "java/lang/invoke/VarHandle" ∧ (parseMethodDescriptor yX0_holding.desc).map (fun d => d.parameters.length) = some 0 := by decide +kernel
theorem hdV_X6_deep : yX6_deep.cls = RX6 ∧ yX6_deep.cls ≠ "java/lang/invoke/MethodHandle" ∧ yX6_deep.cls ≠ "java/lang/invoke/VarHandle" ∧ (parseMethodDescriptor yX6_deep.desc).map (fun d => d.parameters.length) = some 0 := by decide +kernel
theorem hdV_X6_wide : yX6_wide.cls = RX6 ∧ yX6_wide.cls ≠ "java/lang/invoke/MethodHandle" ∧ yX6_wide.cls ≠ "java/lang/invoke/VarHandle" ∧ (parseMethodDescriptor yX6_wide.desc).map (fun d => d.parameters.length) = some 0 := by decide +kernel
theorem hdV_X0_thingAt : yX0_thingAt.cls = RX0 ∧ yX0_thingAt.cls ≠ "java/lang/invoke/MethodHandle" ∧ yX0_thingAt.cls ≠ "java/lang/invoke/VarHandle" ∧ (parseMethodDescriptor yX0_thingAt.desc).map (fun d => d.parameters.length) = some 1 := by decide +kernel
theorem hdV_X6_isUnder : yX6_isUnder.cls = RX6 ∧ yX6_isUnder.cls ≠ "java/lang/invoke/MethodHandle" ∧ yX6_isUnder.cls ≠ "java/lang/invoke/VarHandle" ∧ (parseMethodDescriptor yX6_isUnder.desc).map (fun d => d.parameters.length) = some 1 := by decide +kernel
theorem hdS_X0_cast : yX0_cast.cls ≠ "java/lang/invoke/MethodHandle" ∧ yX0_cast.cls ≠ "java/lang/invoke/VarHandle" ∧ (parseMethodDescriptor yX0_cast.desc).map (fun d => d.parameters.length) = some 2 := by decide +kernel
set_option maxRecDepth 100000 in
theorem m_X0_feed {l : Launch} {G : Gc} {d kp as un to sc fd tp sh : Row} {sp : Nat → Option Nat} (b n : Int32) (ht : vp_in (sc 0) 121) : Cm l yX0_feed (ws_ yX0_feed cX0_feed 4 (some .int)) ({ frames := 1, cells := 0, slots := 0, locals := 22 }) (cF G) [.ref (G.ad 5 0), .int b, .int n] (cct G (pg d kp as un to sc fd tp sh) sp) (fun _ : Unit => some (.int ((c_feed fd tp sc b n).1))) (fun _ => cct G (pg d kp as un to ((c_feed fd tp sc b n).2.1) ((c_feed fd tp sc b n).2.2.2) ((c_feed fd tp sc b n).2.2.1) sh) sp) := by
  refine Cm.start (by decide) (Nat.le_of_ble_eq_true rfl) ?_
  intro p e s m below meth c hf hX hC ls hl
  obtain ⟨hx, hb, hr, hml, hown, hts, hlocks⟩ := hf
  have hl : lv_has ls 4 [(0, .ref (G.ad 5 0)), (1, .int b), (2, .int n)] := hl
  have hown : s.vm.findClass "OwlEars" = some m.cls := hown
  refine lv_iload_n hx hb dX0_feed_0 rfl (lv_at hl 2 rfl) ?_
  refine lv_iconst (v := 1) hx hb dX0_feed_1 rfl ?_
  refine lv_iconst (v := 4) hx hb dX0_feed_2 rfl ?_
  refine fc_S (As := [.int n, .int 1, .int 4]) (rest := []) hx hb hml hown hts hX hC (m_X0_in n 1 4) (lw_S q469 q470 q108 q471) hdS_X0_in ⟨rfl, rfl⟩ ⟨Nat.le_of_ble_eq_true rfl, Nat.le_of_ble_eq_true rfl⟩ hl.1 rfl (Nat.le_of_ble_eq_true rfl) ⟨Nat.zero_le _, Nat.zero_le _⟩ dX0_feed_3 (fun _ H locs hC => ?_)
  refine W.eq (g2 := F0 m 6 ls [.int (b2i (p_in n 1 4))]) rfl ?_
  refine fb_ne (tgt := 15) hx hb dX0_feed_6 (by decide) (fun c_2 => ?_) (fun c_2 => ?_)
  · rcases n1_4 c_2 with qq | qq | qq | qq
    · subst qq
      refine lv_aload_n hx hb dX0_feed_15 rfl (lv_at hl 0 rfl) ?_
      refine fg_get (C := RX0) (T := TX0) (N := 13) (ci := 1) (g := 5) (i := 0) (v := .int (sc 0)) hx hb hown hts hX hC in_X0 rfl (cin rfl) rfl 2 (by decide) q423 (fun _ h => h) rfl dX0_feed_16 ?_
      refine lv_iload_n hx hb dX0_feed_19 rfl (lv_at hl 2 rfl) ?_
      refine lv_iadd hx hb dX0_feed_20 ?_
      refine lv_bipush (v := 120) hx hb dX0_feed_21 rfl ?_
      refine fj_le (tgt := 32) hx hb dX0_feed_23 (by decide) (fun c_3 => ?_) (fun c_3 => ?_)
      · refine lv_iload_n hx hb dX0_feed_32 rfl (lv_at hl 2 rfl) ?_
        refine lv_iconst (v := 1) hx hb dX0_feed_33 rfl ?_
        refine lv_isub hx hb dX0_feed_34 ?_
        refine W.eq (g2 := F0 m 35 ls [.int 0]) rfl ?_
        refine lv_istore_n (lv' := [(3, .int 0), (0, .ref (G.ad 5 0)), (1, .int b), (2, .int 1)]) hx hb dX0_feed_35 rfl hl (by decide) rfl (fun ls hl => ?_)
        refine lv_iload_n hx hb dX0_feed_36 rfl (lv_at hl 0 rfl) ?_
        refine lv_if_lt (tgt := 75) hx hb dX0_feed_37 (by decide) (fun z_4 => absurd z_4 (by decide)) (fun _ => ?_)
        refine lv_aload_n hx hb dX0_feed_40 rfl (lv_at hl 1 rfl) ?_
        refine fg_get (C := RX0) (T := TX0) (N := 13) (ci := 1) (g := 5) (i := 0) (v := .ref (G.ad 5 2)) hx hb hown hts hX hC in_X0 rfl (cin rfl) rfl 1 (by decide) q422 (fun _ h => h) rfl dX0_feed_41 ?_
        refine fg_getN (C := RX2) (T := TX2) (N := 8) (ci := 3) (g := 5) (i := 2) (v := .ref (G.ad 5 4)) hx hb hown hts hX hC in_X2 rfl (cin rfl) rfl 1 (by decide) (hX.2.2.1.F q287) (fun _ h => h) rfl dX0_feed_44 ?_
        refine lv_aload_n hx hb dX0_feed_47 rfl (lv_at hl 1 rfl) ?_
        refine fg_get (C := RX0) (T := TX0) (N := 13) (ci := 1) (g := 5) (i := 0) (v := .int (sc 0)) hx hb hown hts hX hC in_X0 rfl (cin rfl) rfl 2 (by decide) q423 (fun _ h => h) rfl dX0_feed_48 ?_
        refine lv_iload_n hx hb dX0_feed_51 rfl (lv_at hl 2 rfl) ?_
        refine lv_bipush (v := 8) hx hb dX0_feed_52 rfl ?_
        refine lv_iload_n hx hb dX0_feed_54 rfl (lv_at hl 0 rfl) ?_
        refine lv_imul hx hb dX0_feed_55 ?_
        refine W.eq (g2 := F0 m 56 ls [.int 0, .int b, .int (sc 0), .ref (G.ad 5 4)]) rfl ?_
        refine lv_ishr hx hb dX0_feed_56 ?_
        refine lv_i2b (v := (b >>> (0 &&& 31)).toInt8.toInt32) hx hb dX0_feed_57 rfl ?_
        refine fg_bast (g := 5) (i := 4) (t0 := 2) hx hb hX hC (cin rfl) rfl rfl (show vp_in (sc 0) 120 from (Int32.add_zero (sc 0)) ▸ (tp_at (n := 1) (m := 0) ht c_3 (by decide) (by decide)).2) (cct G (pg d kp as un to sc fd (upd tp (ix (sc 0)) (vp_nar .byte ((b >>> (0 &&& 31)).toInt8.toInt32))) sh) sp) cs_tape dX0_feed_58 (fun H locs hC => ?_)
        refine lv_aload_n hx hb dX0_feed_59 rfl (lv_at hl 1 rfl) ?_
        refine lv_dup hx hb dX0_feed_60 rfl ?_
        refine fg_get (C := RX0) (T := TX0) (N := 13) (ci := 1) (g := 5) (i := 0) (v := .int (sc 0)) hx hb hown hts hX hC in_X0 rfl (cin rfl) rfl 2 (by decide) q423 (fun _ h => h) rfl dX0_feed_61 ?_
        refine lv_iconst (v := 1) hx hb dX0_feed_64 rfl ?_
        refine lv_iadd hx hb dX0_feed_65 ?_
        refine fg_put (C := RX0) (T := TX0) (N := 13) (ci := 1) (g := 5) (i := 0) hx hb hown hts hX hC in_X0 tyX0 tyX0_ok nmX0 rfl (cin rfl) rfl 2 (by decide) q423 (fun _ h => h) rfl rfl rfl (Nat.le_of_ble_eq_true rfl) (cct G (pg d kp as un to (upd sc 0 ((sc 0) + 1)) fd (upd tp (ix (sc 0)) (vp_nar .byte ((b >>> (0 &&& 31)).toInt8.toInt32))) sh) sp) cs_sc0 dX0_feed_66 (fun H locs hC => ?_)
        refine lv_iinc (v := (-1)) (lv' := [(3, .int (-1)), (0, .ref (G.ad 5 0)), (1, .int b), (2, .int 1)]) hx hb dX0_feed_69 hl (k := 0) rfl rfl (by decide) rfl (fun ls hl => ?_)
        refine lv_goto (tgt := 36) hx hb dX0_feed_72 (by decide) ?_
        refine lv_iload_n hx hb dX0_feed_36 rfl (lv_at hl 0 rfl) ?_
        refine lv_if_lt (tgt := 75) hx hb dX0_feed_37 (by decide) (fun _ => ?_) (fun z_5 => absurd (by decide) z_5)
        refine lv_aload_n hx hb dX0_feed_75 rfl (lv_at hl 1 rfl) ?_
        refine fg_get (C := RX0) (T := TX0) (N := 13) (ci := 1) (g := 5) (i := 0) (v := .int ((sc 0) + 1)) hx hb hown hts hX hC in_X0 rfl (cin rfl) rfl 2 (by decide) q423 (fun _ h => h) rfl dX0_feed_76 ?_
        have hs : c_feed fd tp sc b 1 = (((sc 0) + 1, upd sc 0 ((sc 0) + 1), upd tp (ix (sc 0)) (vp_nar .byte ((b >>> (0 &&& 31)).toInt8.toInt32)), fd) : Int32 × Row × Row × Row) := by have e0 : ∀ z, vp_nar .byte (z.toInt8.toInt32) = vp_nar .byte z := nar_nar; exact c_feed_1 (by rw [s_feed, if_pos c_2, if_neg c_3]; simp only [e0]; rfl)
        exact fr_i hx hb hr hlocks hX hC () (congrArg (fun z => some (Value.int z)) (t4_1 hs)) (((congrArg (fun z => cct G (pg d kp as un to z ((c_feed fd tp sc b 1).2.2.2) ((c_feed fd tp sc b 1).2.2.1) sh) sp) (t4_2 hs)).trans (congrArg (fun z => cct G (pg d kp as un to (upd sc 0 ((sc 0) + 1)) ((c_feed fd tp sc b 1).2.2.2) z sh) sp) (t4_3 hs))).trans (congrArg (fun z => cct G (pg d kp as un to (upd sc 0 ((sc 0) + 1)) z (upd tp (ix (sc 0)) (vp_nar .byte ((b >>> (0 &&& 31)).toInt8.toInt32))) sh) sp) (t4_4 hs))).symm dX0_feed_79
      · refine lv_aload_n hx hb dX0_feed_26 rfl (lv_at hl 0 rfl) ?_
        refine lv_iconst (v := 1) hx hb dX0_feed_27 rfl ?_
        refine fc_V (As := [.int 1]) (rest := []) hx hb hml hown hts hX hC (m_X0_finding 1 (vin_b rfl)) (lw_V q472 q474 qs2 q108 q475) hdV_X0_finding ⟨rfl, rfl⟩ ⟨Nat.le_of_ble_eq_true rfl, Nat.le_of_ble_eq_true rfl⟩ (fx_recv (g := 5) (i := 0) (ci := 1) (q := (RX0, TX0, 13)) hX hC (cin rfl) rfl rfl) hl.1 rfl (Nat.le_of_ble_eq_true rfl) ⟨Nat.zero_le _, Nat.zero_le _⟩ dX0_feed_28 (fun _ H locs hC => ?_)
        refine W.eq (g2 := F0 m 31 ls [.int (-1000002)]) rfl ?_
        have hs : c_feed fd tp sc b 1 = (((-1000002), sc, tp, p_find fd 1) : Int32 × Row × Row × Row) := by exact c_feed_0 (by rw [s_feed, if_pos c_2, if_pos c_3])
        exact fr_i hx hb hr hlocks hX hC () (congrArg (fun z => some (Value.int z)) (t4_1 hs)) (((congrArg (fun z => cct G (pg d kp as un to z ((c_feed fd tp sc b 1).2.2.2) ((c_feed fd tp sc b 1).2.2.1) sh) sp) (t4_2 hs)).trans (congrArg (fun z => cct G (pg d kp as un to sc ((c_feed fd tp sc b 1).2.2.2) z sh) sp) (t4_3 hs))).trans (congrArg (fun z => cct G (pg d kp as un to sc z tp sh) sp) (t4_4 hs))).symm dX0_feed_31
    · subst qq
      refine lv_aload_n hx hb dX0_feed_15 rfl (lv_at hl 0 rfl) ?_
      refine fg_get (C := RX0) (T := TX0) (N := 13) (ci := 1) (g := 5) (i := 0) (v := .int (sc 0)) hx hb hown hts hX hC in_X0 rfl (cin rfl) rfl 2 (by decide) q423 (fun _ h => h) rfl dX0_feed_16 ?_
      refine lv_iload_n hx hb dX0_feed_19 rfl (lv_at hl 2 rfl) ?_
      refine lv_iadd hx hb dX0_feed_20 ?_
      refine lv_bipush (v := 120) hx hb dX0_feed_21 rfl ?_
      refine fj_le (tgt := 32) hx hb dX0_feed_23 (by decide) (fun c_7 => ?_) (fun c_7 => ?_)
      · refine lv_iload_n hx hb dX0_feed_32 rfl (lv_at hl 2 rfl) ?_
        refine lv_iconst (v := 1) hx hb dX0_feed_33 rfl ?_
        refine lv_isub hx hb dX0_feed_34 ?_
        refine W.eq (g2 := F0 m 35 ls [.int 1]) rfl ?_
        refine lv_istore_n (lv' := [(3, .int 1), (0, .ref (G.ad 5 0)), (1, .int b), (2, .int 2)]) hx hb dX0_feed_35 rfl hl (by decide) rfl (fun ls hl => ?_)
        refine lv_iload_n hx hb dX0_feed_36 rfl (lv_at hl 0 rfl) ?_
        refine lv_if_lt (tgt := 75) hx hb dX0_feed_37 (by decide) (fun z_8 => absurd z_8 (by decide)) (fun _ => ?_)
        refine lv_aload_n hx hb dX0_feed_40 rfl (lv_at hl 1 rfl) ?_
        refine fg_get (C := RX0) (T := TX0) (N := 13) (ci := 1) (g := 5) (i := 0) (v := .ref (G.ad 5 2)) hx hb hown hts hX hC in_X0 rfl (cin rfl) rfl 1 (by decide) q422 (fun _ h => h) rfl dX0_feed_41 ?_
        refine fg_getN (C := RX2) (T := TX2) (N := 8) (ci := 3) (g := 5) (i := 2) (v := .ref (G.ad 5 4)) hx hb hown hts hX hC in_X2 rfl (cin rfl) rfl 1 (by decide) (hX.2.2.1.F q287) (fun _ h => h) rfl dX0_feed_44 ?_
        refine lv_aload_n hx hb dX0_feed_47 rfl (lv_at hl 1 rfl) ?_
        refine fg_get (C := RX0) (T := TX0) (N := 13) (ci := 1) (g := 5) (i := 0) (v := .int (sc 0)) hx hb hown hts hX hC in_X0 rfl (cin rfl) rfl 2 (by decide) q423 (fun _ h => h) rfl dX0_feed_48 ?_
        refine lv_iload_n hx hb dX0_feed_51 rfl (lv_at hl 2 rfl) ?_
        refine lv_bipush (v := 8) hx hb dX0_feed_52 rfl ?_
        refine lv_iload_n hx hb dX0_feed_54 rfl (lv_at hl 0 rfl) ?_
        refine lv_imul hx hb dX0_feed_55 ?_
        refine W.eq (g2 := F0 m 56 ls [.int 8, .int b, .int (sc 0), .ref (G.ad 5 4)]) rfl ?_
        refine lv_ishr hx hb dX0_feed_56 ?_
        refine lv_i2b (v := (b >>> (8 &&& 31)).toInt8.toInt32) hx hb dX0_feed_57 rfl ?_
        refine fg_bast (g := 5) (i := 4) (t0 := 2) hx hb hX hC (cin rfl) rfl rfl (show vp_in (sc 0) 120 from (Int32.add_zero (sc 0)) ▸ (tp_at (n := 2) (m := 0) ht c_7 (by decide) (by decide)).2) (cct G (pg d kp as un to sc fd (upd tp (ix (sc 0)) (vp_nar .byte ((b >>> (8 &&& 31)).toInt8.toInt32))) sh) sp) cs_tape dX0_feed_58 (fun H locs hC => ?_)
        refine lv_aload_n hx hb dX0_feed_59 rfl (lv_at hl 1 rfl) ?_
        refine lv_dup hx hb dX0_feed_60 rfl ?_
        refine fg_get (C := RX0) (T := TX0) (N := 13) (ci := 1) (g := 5) (i := 0) (v := .int (sc 0)) hx hb hown hts hX hC in_X0 rfl (cin rfl) rfl 2 (by decide) q423 (fun _ h => h) rfl dX0_feed_61 ?_
        refine lv_iconst (v := 1) hx hb dX0_feed_64 rfl ?_
        refine lv_iadd hx hb dX0_feed_65 ?_
        refine fg_put (C := RX0) (T := TX0) (N := 13) (ci := 1) (g := 5) (i := 0) hx hb hown hts hX hC in_X0 tyX0 tyX0_ok nmX0 rfl (cin rfl) rfl 2 (by decide) q423 (fun _ h => h) rfl rfl rfl (Nat.le_of_ble_eq_true rfl) (cct G (pg d kp as un to (upd sc 0 ((sc 0) + 1)) fd (upd tp (ix (sc 0)) (vp_nar .byte ((b >>> (8 &&& 31)).toInt8.toInt32))) sh) sp) cs_sc0 dX0_feed_66 (fun H locs hC => ?_)
        refine lv_iinc (v := 0) (lv' := [(3, .int 0), (0, .ref (G.ad 5 0)), (1, .int b), (2, .int 2)]) hx hb dX0_feed_69 hl (k := 0) rfl rfl (by decide) rfl (fun ls hl => ?_)
        refine lv_goto (tgt := 36) hx hb dX0_feed_72 (by decide) ?_
        refine lv_iload_n hx hb dX0_feed_36 rfl (lv_at hl 0 rfl) ?_
        refine lv_if_lt (tgt := 75) hx hb dX0_feed_37 (by decide) (fun z_9 => absurd z_9 (by decide)) (fun _ => ?_)
        refine lv_aload_n hx hb dX0_feed_40 rfl (lv_at hl 1 rfl) ?_
        refine fg_get (C := RX0) (T := TX0) (N := 13) (ci := 1) (g := 5) (i := 0) (v := .ref (G.ad 5 2)) hx hb hown hts hX hC in_X0 rfl (cin rfl) rfl 1 (by decide) q422 (fun _ h => h) rfl dX0_feed_41 ?_
        refine fg_getN (C := RX2) (T := TX2) (N := 8) (ci := 3) (g := 5) (i := 2) (v := .ref (G.ad 5 4)) hx hb hown hts hX hC in_X2 rfl (cin rfl) rfl 1 (by decide) (hX.2.2.1.F q287) (fun _ h => h) rfl dX0_feed_44 ?_
        refine lv_aload_n hx hb dX0_feed_47 rfl (lv_at hl 1 rfl) ?_
        refine fg_get (C := RX0) (T := TX0) (N := 13) (ci := 1) (g := 5) (i := 0) (v := .int ((sc 0) + 1)) hx hb hown hts hX hC in_X0 rfl (cin rfl) rfl 2 (by decide) q423 (fun _ h => h) rfl dX0_feed_48 ?_
        refine lv_iload_n hx hb dX0_feed_51 rfl (lv_at hl 2 rfl) ?_
        refine lv_bipush (v := 8) hx hb dX0_feed_52 rfl ?_
        refine lv_iload_n hx hb dX0_feed_54 rfl (lv_at hl 0 rfl) ?_
        refine lv_imul hx hb dX0_feed_55 ?_
        refine W.eq (g2 := F0 m 56 ls [.int 0, .int b, .int ((sc 0) + 1), .ref (G.ad 5 4)]) rfl ?_
        refine lv_ishr hx hb dX0_feed_56 ?_
        refine lv_i2b (v := (b >>> (0 &&& 31)).toInt8.toInt32) hx hb dX0_feed_57 rfl ?_
        refine fg_bast (g := 5) (i := 4) (t0 := 2) hx hb hX hC (cin rfl) rfl rfl (tp_at (n := 2) (m := 1) ht c_7 (by decide) (by decide)).2 (cct G (pg d kp as un to (upd sc 0 ((sc 0) + 1)) fd (upd (upd tp (ix (sc 0)) (vp_nar .byte ((b >>> (8 &&& 31)).toInt8.toInt32))) (ix ((sc 0) + 1)) (vp_nar .byte ((b >>> (0 &&& 31)).toInt8.toInt32))) sh) sp) cs_tape dX0_feed_58 (fun H locs hC => ?_)
        refine lv_aload_n hx hb dX0_feed_59 rfl (lv_at hl 1 rfl) ?_
        refine lv_dup hx hb dX0_feed_60 rfl ?_
        refine fg_get (C := RX0) (T := TX0) (N := 13) (ci := 1) (g := 5) (i := 0) (v := .int ((sc 0) + 1)) hx hb hown hts hX hC in_X0 rfl (cin rfl) rfl 2 (by decide) q423 (fun _ h => h) rfl dX0_feed_61 ?_
        refine lv_iconst (v := 1) hx hb dX0_feed_64 rfl ?_
        refine lv_iadd hx hb dX0_feed_65 ?_
        refine fg_put (C := RX0) (T := TX0) (N := 13) (ci := 1) (g := 5) (i := 0) hx hb hown hts hX hC in_X0 tyX0 tyX0_ok nmX0 rfl (cin rfl) rfl 2 (by decide) q423 (fun _ h => h) rfl rfl rfl (Nat.le_of_ble_eq_true rfl) (cct G (pg d kp as un to (upd (upd sc 0 ((sc 0) + 1)) 0 (((sc 0) + 1) + 1)) fd (upd (upd tp (ix (sc 0)) (vp_nar .byte ((b >>> (8 &&& 31)).toInt8.toInt32))) (ix ((sc 0) + 1)) (vp_nar .byte ((b >>> (0 &&& 31)).toInt8.toInt32))) sh) sp) cs_sc0 dX0_feed_66 (fun H locs hC => ?_)
        refine lv_iinc (v := (-1)) (lv' := [(3, .int (-1)), (0, .ref (G.ad 5 0)), (1, .int b), (2, .int 2)]) hx hb dX0_feed_69 hl (k := 0) rfl rfl (by decide) rfl (fun ls hl => ?_)
        refine lv_goto (tgt := 36) hx hb dX0_feed_72 (by decide) ?_
        refine lv_iload_n hx hb dX0_feed_36 rfl (lv_at hl 0 rfl) ?_
        refine lv_if_lt (tgt := 75) hx hb dX0_feed_37 (by decide) (fun _ => ?_) (fun z_10 => absurd (by decide) z_10)
        refine lv_aload_n hx hb dX0_feed_75 rfl (lv_at hl 1 rfl) ?_
        refine fg_get (C := RX0) (T := TX0) (N := 13) (ci := 1) (g := 5) (i := 0) (v := .int (((sc 0) + 1) + 1)) hx hb hown hts hX hC in_X0 rfl (cin rfl) rfl 2 (by decide) q423 (fun _ h => h) rfl dX0_feed_76 ?_
        have hs : c_feed fd tp sc b 2 = ((((sc 0) + 1) + 1, upd (upd sc 0 ((sc 0) + 1)) 0 (((sc 0) + 1) + 1), upd (upd tp (ix (sc 0)) (vp_nar .byte ((b >>> (8 &&& 31)).toInt8.toInt32))) (ix ((sc 0) + 1)) (vp_nar .byte ((b >>> (0 &&& 31)).toInt8.toInt32)), fd) : Int32 × Row × Row × Row) := by have e0 : ∀ z, vp_nar .byte (z.toInt8.toInt32) = vp_nar .byte z := nar_nar; have e1 : ix (sc 0 + 1) = ix (sc 0) + 1 := (tp_at (n := 2) (m := 1) ht c_7 (by decide) (by decide)).1; rw [upd_uu]; exact c_feed_1 (by rw [s_feed, if_pos c_2, if_neg c_7]; rw [ad2]; simp only [e0, e1]; rfl)
        exact fr_i hx hb hr hlocks hX hC () (congrArg (fun z => some (Value.int z)) (t4_1 hs)) (((congrArg (fun z => cct G (pg d kp as un to z ((c_feed fd tp sc b 2).2.2.2) ((c_feed fd tp sc b 2).2.2.1) sh) sp) (t4_2 hs)).trans (congrArg (fun z => cct G (pg d kp as un to (upd (upd sc 0 ((sc 0) + 1)) 0 (((sc 0) + 1) + 1)) ((c_feed fd tp sc b 2).2.2.2) z sh) sp) (t4_3 hs))).trans (congrArg (fun z => cct G (pg d kp as un to (upd (upd sc 0 ((sc 0) + 1)) 0 (((sc 0) + 1) + 1)) z (upd (upd tp (ix (sc 0)) (vp_nar .byte ((b >>> (8 &&& 31)).toInt8.toInt32))) (ix ((sc 0) + 1)) (vp_nar .byte ((b >>> (0 &&& 31)).toInt8.toInt32))) sh) sp) (t4_4 hs))).symm dX0_feed_79
      · refine lv_aload_n hx hb dX0_feed_26 rfl (lv_at hl 0 rfl) ?_
        refine lv_iconst (v := 1) hx hb dX0_feed_27 rfl ?_
        refine fc_V (As := [.int 1]) (rest := []) hx hb hml hown hts hX hC (m_X0_finding 1 (vin_b rfl)) (lw_V q472 q474 qs2 q108 q475) hdV_X0_finding ⟨rfl, rfl⟩ ⟨Nat.le_of_ble_eq_true rfl, Nat.le_of_ble_eq_true rfl⟩ (fx_recv (g := 5) (i := 0) (ci := 1) (q := (RX0, TX0, 13)) hX hC (cin rfl) rfl rfl) hl.1 rfl (Nat.le_of_ble_eq_true rfl) ⟨Nat.zero_le _, Nat.zero_le _⟩ dX0_feed_28 (fun _ H locs hC => ?_)
        refine W.eq (g2 := F0 m 31 ls [.int (-1000002)]) rfl ?_
        have hs : c_feed fd tp sc b 2 = (((-1000002), sc, tp, p_find fd 1) : Int32 × Row × Row × Row) := by exact c_feed_0 (by rw [s_feed, if_pos c_2, if_pos c_7])
        exact fr_i hx hb hr hlocks hX hC () (congrArg (fun z => some (Value.int z)) (t4_1 hs)) (((congrArg (fun z => cct G (pg d kp as un to z ((c_feed fd tp sc b 2).2.2.2) ((c_feed fd tp sc b 2).2.2.1) sh) sp) (t4_2 hs)).trans (congrArg (fun z => cct G (pg d kp as un to sc ((c_feed fd tp sc b 2).2.2.2) z sh) sp) (t4_3 hs))).trans (congrArg (fun z => cct G (pg d kp as un to sc z tp sh) sp) (t4_4 hs))).symm dX0_feed_31
    · subst qq
      refine lv_aload_n hx hb dX0_feed_15 rfl (lv_at hl 0 rfl) ?_
      refine fg_get (C := RX0) (T := TX0) (N := 13) (ci := 1) (g := 5) (i := 0) (v := .int (sc 0)) hx hb hown hts hX hC in_X0 rfl (cin rfl) rfl 2 (by decide) q423 (fun _ h => h) rfl dX0_feed_16 ?_
      refine lv_iload_n hx hb dX0_feed_19 rfl (lv_at hl 2 rfl) ?_
      refine lv_iadd hx hb dX0_feed_20 ?_
      refine lv_bipush (v := 120) hx hb dX0_feed_21 rfl ?_
      refine fj_le (tgt := 32) hx hb dX0_feed_23 (by decide) (fun c_12 => ?_) (fun c_12 => ?_)
      · refine lv_iload_n hx hb dX0_feed_32 rfl (lv_at hl 2 rfl) ?_
        refine lv_iconst (v := 1) hx hb dX0_feed_33 rfl ?_
        refine lv_isub hx hb dX0_feed_34 ?_
        refine W.eq (g2 := F0 m 35 ls [.int 2]) rfl ?_
        refine lv_istore_n (lv' := [(3, .int 2), (0, .ref (G.ad 5 0)), (1, .int b), (2, .int 3)]) hx hb dX0_feed_35 rfl hl (by decide) rfl (fun ls hl => ?_)
        refine lv_iload_n hx hb dX0_feed_36 rfl (lv_at hl 0 rfl) ?_
        refine lv_if_lt (tgt := 75) hx hb dX0_feed_37 (by decide) (fun z_13 => absurd z_13 (by decide)) (fun _ => ?_)
        refine lv_aload_n hx hb dX0_feed_40 rfl (lv_at hl 1 rfl) ?_
        refine fg_get (C := RX0) (T := TX0) (N := 13) (ci := 1) (g := 5) (i := 0) (v := .ref (G.ad 5 2)) hx hb hown hts hX hC in_X0 rfl (cin rfl) rfl 1 (by decide) q422 (fun _ h => h) rfl dX0_feed_41 ?_
        refine fg_getN (C := RX2) (T := TX2) (N := 8) (ci := 3) (g := 5) (i := 2) (v := .ref (G.ad 5 4)) hx hb hown hts hX hC in_X2 rfl (cin rfl) rfl 1 (by decide) (hX.2.2.1.F q287) (fun _ h => h) rfl dX0_feed_44 ?_
        refine lv_aload_n hx hb dX0_feed_47 rfl (lv_at hl 1 rfl) ?_
        refine fg_get (C := RX0) (T := TX0) (N := 13) (ci := 1) (g := 5) (i := 0) (v := .int (sc 0)) hx hb hown hts hX hC in_X0 rfl (cin rfl) rfl 2 (by decide) q423 (fun _ h => h) rfl dX0_feed_48 ?_
        refine lv_iload_n hx hb dX0_feed_51 rfl (lv_at hl 2 rfl) ?_
        refine lv_bipush (v := 8) hx hb dX0_feed_52 rfl ?_
        refine lv_iload_n hx hb dX0_feed_54 rfl (lv_at hl 0 rfl) ?_
        refine lv_imul hx hb dX0_feed_55 ?_
        refine W.eq (g2 := F0 m 56 ls [.int 16, .int b, .int (sc 0), .ref (G.ad 5 4)]) rfl ?_
        refine lv_ishr hx hb dX0_feed_56 ?_
        refine lv_i2b (v := (b >>> (16 &&& 31)).toInt8.toInt32) hx hb dX0_feed_57 rfl ?_
        refine fg_bast (g := 5) (i := 4) (t0 := 2) hx hb hX hC (cin rfl) rfl rfl (show vp_in (sc 0) 120 from (Int32.add_zero (sc 0)) ▸ (tp_at (n := 3) (m := 0) ht c_12 (by decide) (by decide)).2) (cct G (pg d kp as un to sc fd (upd tp (ix (sc 0)) (vp_nar .byte ((b >>> (16 &&& 31)).toInt8.toInt32))) sh) sp) cs_tape dX0_feed_58 (fun H locs hC => ?_)
        refine lv_aload_n hx hb dX0_feed_59 rfl (lv_at hl 1 rfl) ?_
        refine lv_dup hx hb dX0_feed_60 rfl ?_
        refine fg_get (C := RX0) (T := TX0) (N := 13) (ci := 1) (g := 5) (i := 0) (v := .int (sc 0)) hx hb hown hts hX hC in_X0 rfl (cin rfl) rfl 2 (by decide) q423 (fun _ h => h) rfl dX0_feed_61 ?_
        refine lv_iconst (v := 1) hx hb dX0_feed_64 rfl ?_
        refine lv_iadd hx hb dX0_feed_65 ?_
        refine fg_put (C := RX0) (T := TX0) (N := 13) (ci := 1) (g := 5) (i := 0) hx hb hown hts hX hC in_X0 tyX0 tyX0_ok nmX0 rfl (cin rfl) rfl 2 (by decide) q423 (fun _ h => h) rfl rfl rfl (Nat.le_of_ble_eq_true rfl) (cct G (pg d kp as un to (upd sc 0 ((sc 0) + 1)) fd (upd tp (ix (sc 0)) (vp_nar .byte ((b >>> (16 &&& 31)).toInt8.toInt32))) sh) sp) cs_sc0 dX0_feed_66 (fun H locs hC => ?_)
        refine lv_iinc (v := 1) (lv' := [(3, .int 1), (0, .ref (G.ad 5 0)), (1, .int b), (2, .int 3)]) hx hb dX0_feed_69 hl (k := 0) rfl rfl (by decide) rfl (fun ls hl => ?_)
        refine lv_goto (tgt := 36) hx hb dX0_feed_72 (by decide) ?_
        refine lv_iload_n hx hb dX0_feed_36 rfl (lv_at hl 0 rfl) ?_
        refine lv_if_lt (tgt := 75) hx hb dX0_feed_37 (by decide) (fun z_14 => absurd z_14 (by decide)) (fun _ => ?_)
        refine lv_aload_n hx hb dX0_feed_40 rfl (lv_at hl 1 rfl) ?_
        refine fg_get (C := RX0) (T := TX0) (N := 13) (ci := 1) (g := 5) (i := 0) (v := .ref (G.ad 5 2)) hx hb hown hts hX hC in_X0 rfl (cin rfl) rfl 1 (by decide) q422 (fun _ h => h) rfl dX0_feed_41 ?_
        refine fg_getN (C := RX2) (T := TX2) (N := 8) (ci := 3) (g := 5) (i := 2) (v := .ref (G.ad 5 4)) hx hb hown hts hX hC in_X2 rfl (cin rfl) rfl 1 (by decide) (hX.2.2.1.F q287) (fun _ h => h) rfl dX0_feed_44 ?_
        refine lv_aload_n hx hb dX0_feed_47 rfl (lv_at hl 1 rfl) ?_
        refine fg_get (C := RX0) (T := TX0) (N := 13) (ci := 1) (g := 5) (i := 0) (v := .int ((sc 0) + 1)) hx hb hown hts hX hC in_X0 rfl (cin rfl) rfl 2 (by decide) q423 (fun _ h => h) rfl dX0_feed_48 ?_
        refine lv_iload_n hx hb dX0_feed_51 rfl (lv_at hl 2 rfl) ?_
        refine lv_bipush (v := 8) hx hb dX0_feed_52 rfl ?_
        refine lv_iload_n hx hb dX0_feed_54 rfl (lv_at hl 0 rfl) ?_
        refine lv_imul hx hb dX0_feed_55 ?_
        refine W.eq (g2 := F0 m 56 ls [.int 8, .int b, .int ((sc 0) + 1), .ref (G.ad 5 4)]) rfl ?_
        refine lv_ishr hx hb dX0_feed_56 ?_
        refine lv_i2b (v := (b >>> (8 &&& 31)).toInt8.toInt32) hx hb dX0_feed_57 rfl ?_
        refine fg_bast (g := 5) (i := 4) (t0 := 2) hx hb hX hC (cin rfl) rfl rfl (tp_at (n := 3) (m := 1) ht c_12 (by decide) (by decide)).2 (cct G (pg d kp as un to (upd sc 0 ((sc 0) + 1)) fd (upd (upd tp (ix (sc 0)) (vp_nar .byte ((b >>> (16 &&& 31)).toInt8.toInt32))) (ix ((sc 0) + 1)) (vp_nar .byte ((b >>> (8 &&& 31)).toInt8.toInt32))) sh) sp) cs_tape dX0_feed_58 (fun H locs hC => ?_)
        refine lv_aload_n hx hb dX0_feed_59 rfl (lv_at hl 1 rfl) ?_
        refine lv_dup hx hb dX0_feed_60 rfl ?_
        refine fg_get (C := RX0) (T := TX0) (N := 13) (ci := 1) (g := 5) (i := 0) (v := .int ((sc 0) + 1)) hx hb hown hts hX hC in_X0 rfl (cin rfl) rfl 2 (by decide) q423 (fun _ h => h) rfl dX0_feed_61 ?_
        refine lv_iconst (v := 1) hx hb dX0_feed_64 rfl ?_
        refine lv_iadd hx hb dX0_feed_65 ?_
        refine fg_put (C := RX0) (T := TX0) (N := 13) (ci := 1) (g := 5) (i := 0) hx hb hown hts hX hC in_X0 tyX0 tyX0_ok nmX0 rfl (cin rfl) rfl 2 (by decide) q423 (fun _ h => h) rfl rfl rfl (Nat.le_of_ble_eq_true rfl) (cct G (pg d kp as un to (upd (upd sc 0 ((sc 0) + 1)) 0 (((sc 0) + 1) + 1)) fd (upd (upd tp (ix (sc 0)) (vp_nar .byte ((b >>> (16 &&& 31)).toInt8.toInt32))) (ix ((sc 0) + 1)) (vp_nar .byte ((b >>> (8 &&& 31)).toInt8.toInt32))) sh) sp) cs_sc0 dX0_feed_66 (fun H locs hC => ?_)
        refine lv_iinc (v := 0) (lv' := [(3, .int 0), (0, .ref (G.ad 5 0)), (1, .int b), (2, .int 3)]) hx hb dX0_feed_69 hl (k := 0) rfl rfl (by decide) rfl (fun ls hl => ?_)
        refine lv_goto (tgt := 36) hx hb dX0_feed_72 (by decide) ?_
        refine lv_iload_n hx hb dX0_feed_36 rfl (lv_at hl 0 rfl) ?_
        refine lv_if_lt (tgt := 75) hx hb dX0_feed_37 (by decide) (fun z_15 => absurd z_15 (by decide)) (fun _ => ?_)
        refine lv_aload_n hx hb dX0_feed_40 rfl (lv_at hl 1 rfl) ?_
        refine fg_get (C := RX0) (T := TX0) (N := 13) (ci := 1) (g := 5) (i := 0) (v := .ref (G.ad 5 2)) hx hb hown hts hX hC in_X0 rfl (cin rfl) rfl 1 (by decide) q422 (fun _ h => h) rfl dX0_feed_41 ?_
        refine fg_getN (C := RX2) (T := TX2) (N := 8) (ci := 3) (g := 5) (i := 2) (v := .ref (G.ad 5 4)) hx hb hown hts hX hC in_X2 rfl (cin rfl) rfl 1 (by decide) (hX.2.2.1.F q287) (fun _ h => h) rfl dX0_feed_44 ?_
        refine lv_aload_n hx hb dX0_feed_47 rfl (lv_at hl 1 rfl) ?_
        refine fg_get (C := RX0) (T := TX0) (N := 13) (ci := 1) (g := 5) (i := 0) (v := .int (((sc 0) + 1) + 1)) hx hb hown hts hX hC in_X0 rfl (cin rfl) rfl 2 (by decide) q423 (fun _ h => h) rfl dX0_feed_48 ?_
        refine lv_iload_n hx hb dX0_feed_51 rfl (lv_at hl 2 rfl) ?_
        refine lv_bipush (v := 8) hx hb dX0_feed_52 rfl ?_
        refine lv_iload_n hx hb dX0_feed_54 rfl (lv_at hl 0 rfl) ?_
        refine lv_imul hx hb dX0_feed_55 ?_
        refine W.eq (g2 := F0 m 56 ls [.int 0, .int b, .int (((sc 0) + 1) + 1), .ref (G.ad 5 4)]) rfl ?_
        refine lv_ishr hx hb dX0_feed_56 ?_
        refine lv_i2b (v := (b >>> (0 &&& 31)).toInt8.toInt32) hx hb dX0_feed_57 rfl ?_
        refine fg_bast (g := 5) (i := 4) (t0 := 2) hx hb hX hC (cin rfl) rfl rfl (show vp_in (((sc 0) + 1) + 1) 120 from (ad2 (sc 0)).symm ▸ (tp_at (n := 3) (m := 2) ht c_12 (by decide) (by decide)).2) (cct G (pg d kp as un to (upd (upd sc 0 ((sc 0) + 1)) 0 (((sc 0) + 1) + 1)) fd (upd (upd (upd tp (ix (sc 0)) (vp_nar .byte ((b >>> (16 &&& 31)).toInt8.toInt32))) (ix ((sc 0) + 1)) (vp_nar .byte ((b >>> (8 &&& 31)).toInt8.toInt32))) (ix (((sc 0) + 1) + 1)) (vp_nar .byte ((b >>> (0 &&& 31)).toInt8.toInt32))) sh) sp) cs_tape dX0_feed_58 (fun H locs hC => ?_)
        refine lv_aload_n hx hb dX0_feed_59 rfl (lv_at hl 1 rfl) ?_
        refine lv_dup hx hb dX0_feed_60 rfl ?_
        refine fg_get (C := RX0) (T := TX0) (N := 13) (ci := 1) (g := 5) (i := 0) (v := .int (((sc 0) + 1) + 1)) hx hb hown hts hX hC in_X0 rfl (cin rfl) rfl 2 (by decide) q423 (fun _ h => h) rfl dX0_feed_61 ?_
        refine lv_iconst (v := 1) hx hb dX0_feed_64 rfl ?_
        refine lv_iadd hx hb dX0_feed_65 ?_
        refine fg_put (C := RX0) (T := TX0) (N := 13) (ci := 1) (g := 5) (i := 0) hx hb hown hts hX hC in_X0 tyX0 tyX0_ok nmX0 rfl (cin rfl) rfl 2 (by decide) q423 (fun _ h => h) rfl rfl rfl (Nat.le_of_ble_eq_true rfl) (cct G (pg d kp as un to (upd (upd (upd sc 0 ((sc 0) + 1)) 0 (((sc 0) + 1) + 1)) 0 ((((sc 0) + 1) + 1) + 1)) fd (upd (upd (upd tp (ix (sc 0)) (vp_nar .byte ((b >>> (16 &&& 31)).toInt8.toInt32))) (ix ((sc 0) + 1)) (vp_nar .byte ((b >>> (8 &&& 31)).toInt8.toInt32))) (ix (((sc 0) + 1) + 1)) (vp_nar .byte ((b >>> (0 &&& 31)).toInt8.toInt32))) sh) sp) cs_sc0 dX0_feed_66 (fun H locs hC => ?_)
        refine lv_iinc (v := (-1)) (lv' := [(3, .int (-1)), (0, .ref (G.ad 5 0)), (1, .int b), (2, .int 3)]) hx hb dX0_feed_69 hl (k := 0) rfl rfl (by decide) rfl (fun ls hl => ?_)
        refine lv_goto (tgt := 36) hx hb dX0_feed_72 (by decide) ?_
        refine lv_iload_n hx hb dX0_feed_36 rfl (lv_at hl 0 rfl) ?_
        refine lv_if_lt (tgt := 75) hx hb dX0_feed_37 (by decide) (fun _ => ?_) (fun z_16 => absurd (by decide) z_16)
        refine lv_aload_n hx hb dX0_feed_75 rfl (lv_at hl 1 rfl) ?_
        refine fg_get (C := RX0) (T := TX0) (N := 13) (ci := 1) (g := 5) (i := 0) (v := .int ((((sc 0) + 1) + 1) + 1)) hx hb hown hts hX hC in_X0 rfl (cin rfl) rfl 2 (by decide) q423 (fun _ h => h) rfl dX0_feed_76 ?_
        have hs : c_feed fd tp sc b 3 = (((((sc 0) + 1) + 1) + 1, upd (upd (upd sc 0 ((sc 0) + 1)) 0 (((sc 0) + 1) + 1)) 0 ((((sc 0) + 1) + 1) + 1), upd (upd (upd tp (ix (sc 0)) (vp_nar .byte ((b >>> (16 &&& 31)).toInt8.toInt32))) (ix ((sc 0) + 1)) (vp_nar .byte ((b >>> (8 &&& 31)).toInt8.toInt32))) (ix (((sc 0) + 1) + 1)) (vp_nar .byte ((b >>> (0 &&& 31)).toInt8.toInt32)), fd) : Int32 × Row × Row × Row) := by have e0 : ∀ z, vp_nar .byte (z.toInt8.toInt32) = vp_nar .byte z := nar_nar; have e1 : ix (sc 0 + 1) = ix (sc 0) + 1 := (tp_at (n := 3) (m := 1) ht c_12 (by decide) (by decide)).1; have e2 : ix (sc 0 + 1 + 1) = ix (sc 0) + 2 := (congrArg ix (ad2 (sc 0))).trans (tp_at (n := 3) (m := 2) ht c_12 (by decide) (by decide)).1; rw [upd_uu, upd_uu]; exact c_feed_1 (by rw [s_feed, if_pos c_2, if_neg c_12]; rw [ad3]; simp only [e0, e2, e1]; rfl)
        exact fr_i hx hb hr hlocks hX hC () (congrArg (fun z => some (Value.int z)) (t4_1 hs)) (((congrArg (fun z => cct G (pg d kp as un to z ((c_feed fd tp sc b 3).2.2.2) ((c_feed fd tp sc b 3).2.2.1) sh) sp) (t4_2 hs)).trans (congrArg (fun z => cct G (pg d kp as un to (upd (upd (upd sc 0 ((sc 0) + 1)) 0 (((sc 0) + 1) + 1)) 0 ((((sc 0) + 1) + 1) + 1)) ((c_feed fd tp sc b 3).2.2.2) z sh) sp) (t4_3 hs))).trans (congrArg (fun z => cct G (pg d kp as un to (upd (upd (upd sc 0 ((sc 0) + 1)) 0 (((sc 0) + 1) + 1)) 0 ((((sc 0) + 1) + 1) + 1)) z (upd (upd (upd tp (ix (sc 0)) (vp_nar .byte ((b >>> (16 &&& 31)).toInt8.toInt32))) (ix ((sc 0) + 1)) (vp_nar .byte ((b >>> (8 &&& 31)).toInt8.toInt32))) (ix (((sc 0) + 1) + 1)) (vp_nar .byte ((b >>> (0 &&& 31)).toInt8.toInt32))) sh) sp) (t4_4 hs))).symm dX0_feed_79
      · refine lv_aload_n hx hb dX0_feed_26 rfl (lv_at hl 0 rfl) ?_
        refine lv_iconst (v := 1) hx hb dX0_feed_27 rfl ?_
        refine fc_V (As := [.int 1]) (rest := []) hx hb hml hown hts hX hC (m_X0_finding 1 (vin_b rfl)) (lw_V q472 q474 qs2 q108 q475) hdV_X0_finding ⟨rfl, rfl⟩ ⟨Nat.le_of_ble_eq_true rfl, Nat.le_of_ble_eq_true rfl⟩ (fx_recv (g := 5) (i := 0) (ci := 1) (q := (RX0, TX0, 13)) hX hC (cin rfl) rfl rfl) hl.1 rfl (Nat.le_of_ble_eq_true rfl) ⟨Nat.zero_le _, Nat.zero_le _⟩ dX0_feed_28 (fun _ H locs hC => ?_)
        refine W.eq (g2 := F0 m 31 ls [.int (-1000002)]) rfl ?_
        have hs : c_feed fd tp sc b 3 = (((-1000002), sc, tp, p_find fd 1) : Int32 × Row × Row × Row) := by exact c_feed_0 (by rw [s_feed, if_pos c_2, if_pos c_12])
        exact fr_i hx hb hr hlocks hX hC () (congrArg (fun z => some (Value.int z)) (t4_1 hs)) (((congrArg (fun z => cct G (pg d kp as un to z ((c_feed fd tp sc b 3).2.2.2) ((c_feed fd tp sc b 3).2.2.1) sh) sp) (t4_2 hs)).trans (congrArg (fun z => cct G (pg d kp as un to sc ((c_feed fd tp sc b 3).2.2.2) z sh) sp) (t4_3 hs))).trans (congrArg (fun z => cct G (pg d kp as un to sc z tp sh) sp) (t4_4 hs))).symm dX0_feed_31
    · subst qq
      refine lv_aload_n hx hb dX0_feed_15 rfl (lv_at hl 0 rfl) ?_
      refine fg_get (C := RX0) (T := TX0) (N := 13) (ci := 1) (g := 5) (i := 0) (v := .int (sc 0)) hx hb hown hts hX hC in_X0 rfl (cin rfl) rfl 2 (by decide) q423 (fun _ h => h) rfl dX0_feed_16 ?_
      refine lv_iload_n hx hb dX0_feed_19 rfl (lv_at hl 2 rfl) ?_
      refine lv_iadd hx hb dX0_feed_20 ?_
      refine lv_bipush (v := 120) hx hb dX0_feed_21 rfl ?_
      refine fj_le (tgt := 32) hx hb dX0_feed_23 (by decide) (fun c_18 => ?_) (fun c_18 => ?_)
      · refine lv_iload_n hx hb dX0_feed_32 rfl (lv_at hl 2 rfl) ?_
        refine lv_iconst (v := 1) hx hb dX0_feed_33 rfl ?_
        refine lv_isub hx hb dX0_feed_34 ?_
        refine W.eq (g2 := F0 m 35 ls [.int 3]) rfl ?_
        refine lv_istore_n (lv' := [(3, .int 3), (0, .ref (G.ad 5 0)), (1, .int b), (2, .int 4)]) hx hb dX0_feed_35 rfl hl (by decide) rfl (fun ls hl => ?_)
        refine lv_iload_n hx hb dX0_feed_36 rfl (lv_at hl 0 rfl) ?_
        refine lv_if_lt (tgt := 75) hx hb dX0_feed_37 (by decide) (fun z_19 => absurd z_19 (by decide)) (fun _ => ?_)
        refine lv_aload_n hx hb dX0_feed_40 rfl (lv_at hl 1 rfl) ?_
        refine fg_get (C := RX0) (T := TX0) (N := 13) (ci := 1) (g := 5) (i := 0) (v := .ref (G.ad 5 2)) hx hb hown hts hX hC in_X0 rfl (cin rfl) rfl 1 (by decide) q422 (fun _ h => h) rfl dX0_feed_41 ?_
        refine fg_getN (C := RX2) (T := TX2) (N := 8) (ci := 3) (g := 5) (i := 2) (v := .ref (G.ad 5 4)) hx hb hown hts hX hC in_X2 rfl (cin rfl) rfl 1 (by decide) (hX.2.2.1.F q287) (fun _ h => h) rfl dX0_feed_44 ?_
        refine lv_aload_n hx hb dX0_feed_47 rfl (lv_at hl 1 rfl) ?_
        refine fg_get (C := RX0) (T := TX0) (N := 13) (ci := 1) (g := 5) (i := 0) (v := .int (sc 0)) hx hb hown hts hX hC in_X0 rfl (cin rfl) rfl 2 (by decide) q423 (fun _ h => h) rfl dX0_feed_48 ?_
        refine lv_iload_n hx hb dX0_feed_51 rfl (lv_at hl 2 rfl) ?_
        refine lv_bipush (v := 8) hx hb dX0_feed_52 rfl ?_
        refine lv_iload_n hx hb dX0_feed_54 rfl (lv_at hl 0 rfl) ?_
        refine lv_imul hx hb dX0_feed_55 ?_
        refine W.eq (g2 := F0 m 56 ls [.int 24, .int b, .int (sc 0), .ref (G.ad 5 4)]) rfl ?_
        refine lv_ishr hx hb dX0_feed_56 ?_
        refine lv_i2b (v := (b >>> (24 &&& 31)).toInt8.toInt32) hx hb dX0_feed_57 rfl ?_
        refine fg_bast (g := 5) (i := 4) (t0 := 2) hx hb hX hC (cin rfl) rfl rfl (show vp_in (sc 0) 120 from (Int32.add_zero (sc 0)) ▸ (tp_at (n := 4) (m := 0) ht c_18 (by decide) (by decide)).2) (cct G (pg d kp as un to sc fd (upd tp (ix (sc 0)) (vp_nar .byte ((b >>> (24 &&& 31)).toInt8.toInt32))) sh) sp) cs_tape dX0_feed_58 (fun H locs hC => ?_)
        refine lv_aload_n hx hb dX0_feed_59 rfl (lv_at hl 1 rfl) ?_
        refine lv_dup hx hb dX0_feed_60 rfl ?_
        refine fg_get (C := RX0) (T := TX0) (N := 13) (ci := 1) (g := 5) (i := 0) (v := .int (sc 0)) hx hb hown hts hX hC in_X0 rfl (cin rfl) rfl 2 (by decide) q423 (fun _ h => h) rfl dX0_feed_61 ?_
        refine lv_iconst (v := 1) hx hb dX0_feed_64 rfl ?_
        refine lv_iadd hx hb dX0_feed_65 ?_
        refine fg_put (C := RX0) (T := TX0) (N := 13) (ci := 1) (g := 5) (i := 0) hx hb hown hts hX hC in_X0 tyX0 tyX0_ok nmX0 rfl (cin rfl) rfl 2 (by decide) q423 (fun _ h => h) rfl rfl rfl (Nat.le_of_ble_eq_true rfl) (cct G (pg d kp as un to (upd sc 0 ((sc 0) + 1)) fd (upd tp (ix (sc 0)) (vp_nar .byte ((b >>> (24 &&& 31)).toInt8.toInt32))) sh) sp) cs_sc0 dX0_feed_66 (fun H locs hC => ?_)
        refine lv_iinc (v := 2) (lv' := [(3, .int 2), (0, .ref (G.ad 5 0)), (1, .int b), (2, .int 4)]) hx hb dX0_feed_69 hl (k := 0) rfl rfl (by decide) rfl (fun ls hl => ?_)
        refine lv_goto (tgt := 36) hx hb dX0_feed_72 (by decide) ?_
        refine lv_iload_n hx hb dX0_feed_36 rfl (lv_at hl 0 rfl) ?_
        refine lv_if_lt (tgt := 75) hx hb dX0_feed_37 (by decide) (fun z_20 => absurd z_20 (by decide)) (fun _ => ?_)
        refine lv_aload_n hx hb dX0_feed_40 rfl (lv_at hl 1 rfl) ?_
        refine fg_get (C := RX0) (T := TX0) (N := 13) (ci := 1) (g := 5) (i := 0) (v := .ref (G.ad 5 2)) hx hb hown hts hX hC in_X0 rfl (cin rfl) rfl 1 (by decide) q422 (fun _ h => h) rfl dX0_feed_41 ?_
        refine fg_getN (C := RX2) (T := TX2) (N := 8) (ci := 3) (g := 5) (i := 2) (v := .ref (G.ad 5 4)) hx hb hown hts hX hC in_X2 rfl (cin rfl) rfl 1 (by decide) (hX.2.2.1.F q287) (fun _ h => h) rfl dX0_feed_44 ?_
        refine lv_aload_n hx hb dX0_feed_47 rfl (lv_at hl 1 rfl) ?_
        refine fg_get (C := RX0) (T := TX0) (N := 13) (ci := 1) (g := 5) (i := 0) (v := .int ((sc 0) + 1)) hx hb hown hts hX hC in_X0 rfl (cin rfl) rfl 2 (by decide) q423 (fun _ h => h) rfl dX0_feed_48 ?_
        refine lv_iload_n hx hb dX0_feed_51 rfl (lv_at hl 2 rfl) ?_
        refine lv_bipush (v := 8) hx hb dX0_feed_52 rfl ?_
        refine lv_iload_n hx hb dX0_feed_54 rfl (lv_at hl 0 rfl) ?_
        refine lv_imul hx hb dX0_feed_55 ?_
        refine W.eq (g2 := F0 m 56 ls [.int 16, .int b, .int ((sc 0) + 1), .ref (G.ad 5 4)]) rfl ?_
        refine lv_ishr hx hb dX0_feed_56 ?_
        refine lv_i2b (v := (b >>> (16 &&& 31)).toInt8.toInt32) hx hb dX0_feed_57 rfl ?_
        refine fg_bast (g := 5) (i := 4) (t0 := 2) hx hb hX hC (cin rfl) rfl rfl (tp_at (n := 4) (m := 1) ht c_18 (by decide) (by decide)).2 (cct G (pg d kp as un to (upd sc 0 ((sc 0) + 1)) fd (upd (upd tp (ix (sc 0)) (vp_nar .byte ((b >>> (24 &&& 31)).toInt8.toInt32))) (ix ((sc 0) + 1)) (vp_nar .byte ((b >>> (16 &&& 31)).toInt8.toInt32))) sh) sp) cs_tape dX0_feed_58 (fun H locs hC => ?_)
        refine lv_aload_n hx hb dX0_feed_59 rfl (lv_at hl 1 rfl) ?_
        refine lv_dup hx hb dX0_feed_60 rfl ?_
        refine fg_get (C := RX0) (T := TX0) (N := 13) (ci := 1) (g := 5) (i := 0) (v := .int ((sc 0) + 1)) hx hb hown hts hX hC in_X0 rfl (cin rfl) rfl 2 (by decide) q423 (fun _ h => h) rfl dX0_feed_61 ?_
        refine lv_iconst (v := 1) hx hb dX0_feed_64 rfl ?_
        refine lv_iadd hx hb dX0_feed_65 ?_
        refine fg_put (C := RX0) (T := TX0) (N := 13) (ci := 1) (g := 5) (i := 0) hx hb hown hts hX hC in_X0 tyX0 tyX0_ok nmX0 rfl (cin rfl) rfl 2 (by decide) q423 (fun _ h => h) rfl rfl rfl (Nat.le_of_ble_eq_true rfl) (cct G (pg d kp as un to (upd (upd sc 0 ((sc 0) + 1)) 0 (((sc 0) + 1) + 1)) fd (upd (upd tp (ix (sc 0)) (vp_nar .byte ((b >>> (24 &&& 31)).toInt8.toInt32))) (ix ((sc 0) + 1)) (vp_nar .byte ((b >>> (16 &&& 31)).toInt8.toInt32))) sh) sp) cs_sc0 dX0_feed_66 (fun H locs hC => ?_)
        refine lv_iinc (v := 1) (lv' := [(3, .int 1), (0, .ref (G.ad 5 0)), (1, .int b), (2, .int 4)]) hx hb dX0_feed_69 hl (k := 0) rfl rfl (by decide) rfl (fun ls hl => ?_)
        refine lv_goto (tgt := 36) hx hb dX0_feed_72 (by decide) ?_
        refine lv_iload_n hx hb dX0_feed_36 rfl (lv_at hl 0 rfl) ?_
        refine lv_if_lt (tgt := 75) hx hb dX0_feed_37 (by decide) (fun z_21 => absurd z_21 (by decide)) (fun _ => ?_)
        refine lv_aload_n hx hb dX0_feed_40 rfl (lv_at hl 1 rfl) ?_
        refine fg_get (C := RX0) (T := TX0) (N := 13) (ci := 1) (g := 5) (i := 0) (v := .ref (G.ad 5 2)) hx hb hown hts hX hC in_X0 rfl (cin rfl) rfl 1 (by decide) q422 (fun _ h => h) rfl dX0_feed_41 ?_
        refine fg_getN (C := RX2) (T := TX2) (N := 8) (ci := 3) (g := 5) (i := 2) (v := .ref (G.ad 5 4)) hx hb hown hts hX hC in_X2 rfl (cin rfl) rfl 1 (by decide) (hX.2.2.1.F q287) (fun _ h => h) rfl dX0_feed_44 ?_
        refine lv_aload_n hx hb dX0_feed_47 rfl (lv_at hl 1 rfl) ?_
        refine fg_get (C := RX0) (T := TX0) (N := 13) (ci := 1) (g := 5) (i := 0) (v := .int (((sc 0) + 1) + 1)) hx hb hown hts hX hC in_X0 rfl (cin rfl) rfl 2 (by decide) q423 (fun _ h => h) rfl dX0_feed_48 ?_
        refine lv_iload_n hx hb dX0_feed_51 rfl (lv_at hl 2 rfl) ?_
        refine lv_bipush (v := 8) hx hb dX0_feed_52 rfl ?_
        refine lv_iload_n hx hb dX0_feed_54 rfl (lv_at hl 0 rfl) ?_
        refine lv_imul hx hb dX0_feed_55 ?_
        refine W.eq (g2 := F0 m 56 ls [.int 8, .int b, .int (((sc 0) + 1) + 1), .ref (G.ad 5 4)]) rfl ?_
        refine lv_ishr hx hb dX0_feed_56 ?_
        refine lv_i2b (v := (b >>> (8 &&& 31)).toInt8.toInt32) hx hb dX0_feed_57 rfl ?_
        refine fg_bast (g := 5) (i := 4) (t0 := 2) hx hb hX hC (cin rfl) rfl rfl (show vp_in (((sc 0) + 1) + 1) 120 from (ad2 (sc 0)).symm ▸ (tp_at (n := 4) (m := 2) ht c_18 (by decide) (by decide)).2) (cct G (pg d kp as un to (upd (upd sc 0 ((sc 0) + 1)) 0 (((sc 0) + 1) + 1)) fd (upd (upd (upd tp (ix (sc 0)) (vp_nar .byte ((b >>> (24 &&& 31)).toInt8.toInt32))) (ix ((sc 0) + 1)) (vp_nar .byte ((b >>> (16 &&& 31)).toInt8.toInt32))) (ix (((sc 0) + 1) + 1)) (vp_nar .byte ((b >>> (8 &&& 31)).toInt8.toInt32))) sh) sp) cs_tape dX0_feed_58 (fun H locs hC => ?_)
        refine lv_aload_n hx hb dX0_feed_59 rfl (lv_at hl 1 rfl) ?_
        refine lv_dup hx hb dX0_feed_60 rfl ?_
        refine fg_get (C := RX0) (T := TX0) (N := 13) (ci := 1) (g := 5) (i := 0) (v := .int (((sc 0) + 1) + 1)) hx hb hown hts hX hC in_X0 rfl (cin rfl) rfl 2 (by decide) q423 (fun _ h => h) rfl dX0_feed_61 ?_
        refine lv_iconst (v := 1) hx hb dX0_feed_64 rfl ?_
        refine lv_iadd hx hb dX0_feed_65 ?_
        refine fg_put (C := RX0) (T := TX0) (N := 13) (ci := 1) (g := 5) (i := 0) hx hb hown hts hX hC in_X0 tyX0 tyX0_ok nmX0 rfl (cin rfl) rfl 2 (by decide) q423 (fun _ h => h) rfl rfl rfl (Nat.le_of_ble_eq_true rfl) (cct G (pg d kp as un to (upd (upd (upd sc 0 ((sc 0) + 1)) 0 (((sc 0) + 1) + 1)) 0 ((((sc 0) + 1) + 1) + 1)) fd (upd (upd (upd tp (ix (sc 0)) (vp_nar .byte ((b >>> (24 &&& 31)).toInt8.toInt32))) (ix ((sc 0) + 1)) (vp_nar .byte ((b >>> (16 &&& 31)).toInt8.toInt32))) (ix (((sc 0) + 1) + 1)) (vp_nar .byte ((b >>> (8 &&& 31)).toInt8.toInt32))) sh) sp) cs_sc0 dX0_feed_66 (fun H locs hC => ?_)
        refine lv_iinc (v := 0) (lv' := [(3, .int 0), (0, .ref (G.ad 5 0)), (1, .int b), (2, .int 4)]) hx hb dX0_feed_69 hl (k := 0) rfl rfl (by decide) rfl (fun ls hl => ?_)
        refine lv_goto (tgt := 36) hx hb dX0_feed_72 (by decide) ?_
        refine lv_iload_n hx hb dX0_feed_36 rfl (lv_at hl 0 rfl) ?_
        refine lv_if_lt (tgt := 75) hx hb dX0_feed_37 (by decide) (fun z_22 => absurd z_22 (by decide)) (fun _ => ?_)
        refine lv_aload_n hx hb dX0_feed_40 rfl (lv_at hl 1 rfl) ?_
        refine fg_get (C := RX0) (T := TX0) (N := 13) (ci := 1) (g := 5) (i := 0) (v := .ref (G.ad 5 2)) hx hb hown hts hX hC in_X0 rfl (cin rfl) rfl 1 (by decide) q422 (fun _ h => h) rfl dX0_feed_41 ?_
        refine fg_getN (C := RX2) (T := TX2) (N := 8) (ci := 3) (g := 5) (i := 2) (v := .ref (G.ad 5 4)) hx hb hown hts hX hC in_X2 rfl (cin rfl) rfl 1 (by decide) (hX.2.2.1.F q287) (fun _ h => h) rfl dX0_feed_44 ?_
        refine lv_aload_n hx hb dX0_feed_47 rfl (lv_at hl 1 rfl) ?_
        refine fg_get (C := RX0) (T := TX0) (N := 13) (ci := 1) (g := 5) (i := 0) (v := .int ((((sc 0) + 1) + 1) + 1)) hx hb hown hts hX hC in_X0 rfl (cin rfl) rfl 2 (by decide) q423 (fun _ h => h) rfl dX0_feed_48 ?_
        refine lv_iload_n hx hb dX0_feed_51 rfl (lv_at hl 2 rfl) ?_
        refine lv_bipush (v := 8) hx hb dX0_feed_52 rfl ?_
        refine lv_iload_n hx hb dX0_feed_54 rfl (lv_at hl 0 rfl) ?_
        refine lv_imul hx hb dX0_feed_55 ?_
        refine W.eq (g2 := F0 m 56 ls [.int 0, .int b, .int ((((sc 0) + 1) + 1) + 1), .ref (G.ad 5 4)]) rfl ?_
        refine lv_ishr hx hb dX0_feed_56 ?_
        refine lv_i2b (v := (b >>> (0 &&& 31)).toInt8.toInt32) hx hb dX0_feed_57 rfl ?_
        refine fg_bast (g := 5) (i := 4) (t0 := 2) hx hb hX hC (cin rfl) rfl rfl (show vp_in ((((sc 0) + 1) + 1) + 1) 120 from (ad3 (sc 0)).symm ▸ (tp_at (n := 4) (m := 3) ht c_18 (by decide) (by decide)).2) (cct G (pg d kp as un to (upd (upd (upd sc 0 ((sc 0) + 1)) 0 (((sc 0) + 1) + 1)) 0 ((((sc 0) + 1) + 1) + 1)) fd (upd (upd (upd (upd tp (ix (sc 0)) (vp_nar .byte ((b >>> (24 &&& 31)).toInt8.toInt32))) (ix ((sc 0) + 1)) (vp_nar .byte ((b >>> (16 &&& 31)).toInt8.toInt32))) (ix (((sc 0) + 1) + 1)) (vp_nar .byte ((b >>> (8 &&& 31)).toInt8.toInt32))) (ix ((((sc 0) + 1) + 1) + 1)) (vp_nar .byte ((b >>> (0 &&& 31)).toInt8.toInt32))) sh) sp) cs_tape dX0_feed_58 (fun H locs hC => ?_)
        refine lv_aload_n hx hb dX0_feed_59 rfl (lv_at hl 1 rfl) ?_
        refine lv_dup hx hb dX0_feed_60 rfl ?_
        refine fg_get (C := RX0) (T := TX0) (N := 13) (ci := 1) (g := 5) (i := 0) (v := .int ((((sc 0) + 1) + 1) + 1)) hx hb hown hts hX hC in_X0 rfl (cin rfl) rfl 2 (by decide) q423 (fun _ h => h) rfl dX0_feed_61 ?_
        refine lv_iconst (v := 1) hx hb dX0_feed_64 rfl ?_
        refine lv_iadd hx hb dX0_feed_65 ?_
        refine fg_put (C := RX0) (T := TX0) (N := 13) (ci := 1) (g := 5) (i := 0) hx hb hown hts hX hC in_X0 tyX0 tyX0_ok nmX0 rfl (cin rfl) rfl 2 (by decide) q423 (fun _ h => h) rfl rfl rfl (Nat.le_of_ble_eq_true rfl) (cct G (pg d kp as un to (upd (upd (upd (upd sc 0 ((sc 0) + 1)) 0 (((sc 0) + 1) + 1)) 0 ((((sc 0) + 1) + 1) + 1)) 0 (((((sc 0) + 1) + 1) + 1) + 1)) fd (upd (upd (upd (upd tp (ix (sc 0)) (vp_nar .byte ((b >>> (24 &&& 31)).toInt8.toInt32))) (ix ((sc 0) + 1)) (vp_nar .byte ((b >>> (16 &&& 31)).toInt8.toInt32))) (ix (((sc 0) + 1) + 1)) (vp_nar .byte ((b >>> (8 &&& 31)).toInt8.toInt32))) (ix ((((sc 0) + 1) + 1) + 1)) (vp_nar .byte ((b >>> (0 &&& 31)).toInt8.toInt32))) sh) sp) cs_sc0 dX0_feed_66 (fun H locs hC => ?_)
        refine lv_iinc (v := (-1)) (lv' := [(3, .int (-1)), (0, .ref (G.ad 5 0)), (1, .int b), (2, .int 4)]) hx hb dX0_feed_69 hl (k := 0) rfl rfl (by decide) rfl (fun ls hl => ?_)
        refine lv_goto (tgt := 36) hx hb dX0_feed_72 (by decide) ?_
        refine lv_iload_n hx hb dX0_feed_36 rfl (lv_at hl 0 rfl) ?_
        refine lv_if_lt (tgt := 75) hx hb dX0_feed_37 (by decide) (fun _ => ?_) (fun z_23 => absurd (by decide) z_23)
        refine lv_aload_n hx hb dX0_feed_75 rfl (lv_at hl 1 rfl) ?_
        refine fg_get (C := RX0) (T := TX0) (N := 13) (ci := 1) (g := 5) (i := 0) (v := .int (((((sc 0) + 1) + 1) + 1) + 1)) hx hb hown hts hX hC in_X0 rfl (cin rfl) rfl 2 (by decide) q423 (fun _ h => h) rfl dX0_feed_76 ?_
        have hs : c_feed fd tp sc b 4 = ((((((sc 0) + 1) + 1) + 1) + 1, upd (upd (upd (upd sc 0 ((sc 0) + 1)) 0 (((sc 0) + 1) + 1)) 0 ((((sc 0) + 1) + 1) + 1)) 0 (((((sc 0) + 1) + 1) + 1) + 1), upd (upd (upd (upd tp (ix (sc 0)) (vp_nar .byte ((b >>> (24 &&& 31)).toInt8.toInt32))) (ix ((sc 0) + 1)) (vp_nar .byte ((b >>> (16 &&& 31)).toInt8.toInt32))) (ix (((sc 0) + 1) + 1)) (vp_nar .byte ((b >>> (8 &&& 31)).toInt8.toInt32))) (ix ((((sc 0) + 1) + 1) + 1)) (vp_nar .byte ((b >>> (0 &&& 31)).toInt8.toInt32)), fd) : Int32 × Row × Row × Row) := by have e0 : ∀ z, vp_nar .byte (z.toInt8.toInt32) = vp_nar .byte z := nar_nar; have e1 : ix (sc 0 + 1) = ix (sc 0) + 1 := (tp_at (n := 4) (m := 1) ht c_18 (by decide) (by decide)).1; have e2 : ix (sc 0 + 1 + 1) = ix (sc 0) + 2 := (congrArg ix (ad2 (sc 0))).trans (tp_at (n := 4) (m := 2) ht c_18 (by decide) (by decide)).1; have e3 : ix (sc 0 + 1 + 1 + 1) = ix (sc 0) + 3 := (congrArg ix (ad3 (sc 0))).trans (tp_at (n := 4) (m := 3) ht c_18 (by decide) (by decide)).1; rw [upd_uu, upd_uu, upd_uu]; exact c_feed_1 (by rw [s_feed, if_pos c_2, if_neg c_18]; rw [ad4]; simp only [e0, e3, e2, e1]; rfl)
        exact fr_i hx hb hr hlocks hX hC () (congrArg (fun z => some (Value.int z)) (t4_1 hs)) (((congrArg (fun z => cct G (pg d kp as un to z ((c_feed fd tp sc b 4).2.2.2) ((c_feed fd tp sc b 4).2.2.1) sh) sp) (t4_2 hs)).trans (congrArg (fun z => cct G (pg d kp as un to (upd (upd (upd (upd sc 0 ((sc 0) + 1)) 0 (((sc 0) + 1) + 1)) 0 ((((sc 0) + 1) + 1) + 1)) 0 (((((sc 0) + 1) + 1) + 1) + 1)) ((c_feed fd tp sc b 4).2.2.2) z sh) sp) (t4_3 hs))).trans (congrArg (fun z => cct G (pg d kp as un to (upd (upd (upd (upd sc 0 ((sc 0) + 1)) 0 (((sc 0) + 1) + 1)) 0 ((((sc 0) + 1) + 1) + 1)) 0 (((((sc 0) + 1) + 1) + 1) + 1)) z (upd (upd (upd (upd tp (ix (sc 0)) (vp_nar .byte ((b >>> (24 &&& 31)).toInt8.toInt32))) (ix ((sc 0) + 1)) (vp_nar .byte ((b >>> (16 &&& 31)).toInt8.toInt32))) (ix (((sc 0) + 1) + 1)) (vp_nar .byte ((b >>> (8 &&& 31)).toInt8.toInt32))) (ix ((((sc 0) + 1) + 1) + 1)) (vp_nar .byte ((b >>> (0 &&& 31)).toInt8.toInt32))) sh) sp) (t4_4 hs))).symm dX0_feed_79
      · refine lv_aload_n hx hb dX0_feed_26 rfl (lv_at hl 0 rfl) ?_
        refine lv_iconst (v := 1) hx hb dX0_feed_27 rfl ?_
        refine fc_V (As := [.int 1]) (rest := []) hx hb hml hown hts hX hC (m_X0_finding 1 (vin_b rfl)) (lw_V q472 q474 qs2 q108 q475) hdV_X0_finding ⟨rfl, rfl⟩ ⟨Nat.le_of_ble_eq_true rfl, Nat.le_of_ble_eq_true rfl⟩ (fx_recv (g := 5) (i := 0) (ci := 1) (q := (RX0, TX0, 13)) hX hC (cin rfl) rfl rfl) hl.1 rfl (Nat.le_of_ble_eq_true rfl) ⟨Nat.zero_le _, Nat.zero_le _⟩ dX0_feed_28 (fun _ H locs hC => ?_)
        refine W.eq (g2 := F0 m 31 ls [.int (-1000002)]) rfl ?_
        have hs : c_feed fd tp sc b 4 = (((-1000002), sc, tp, p_find fd 1) : Int32 × Row × Row × Row) := by exact c_feed_0 (by rw [s_feed, if_pos c_2, if_pos c_18])
        exact fr_i hx hb hr hlocks hX hC () (congrArg (fun z => some (Value.int z)) (t4_1 hs)) (((congrArg (fun z => cct G (pg d kp as un to z ((c_feed fd tp sc b 4).2.2.2) ((c_feed fd tp sc b 4).2.2.1) sh) sp) (t4_2 hs)).trans (congrArg (fun z => cct G (pg d kp as un to sc ((c_feed fd tp sc b 4).2.2.2) z sh) sp) (t4_3 hs))).trans (congrArg (fun z => cct G (pg d kp as un to sc z tp sh) sp) (t4_4 hs))).symm dX0_feed_31
  · refine lv_aload_n hx hb dX0_feed_9 rfl (lv_at hl 0 rfl) ?_
    refine lv_iconst (v := 0) hx hb dX0_feed_10 rfl ?_
    refine fc_V (As := [.int 0]) (rest := []) hx hb hml hown hts hX hC (m_X0_finding 0 (vin_b rfl)) (lw_V q472 q474 qs2 q108 q475) hdV_X0_finding ⟨rfl, rfl⟩ ⟨Nat.le_of_ble_eq_true rfl, Nat.le_of_ble_eq_true rfl⟩ (fx_recv (g := 5) (i := 0) (ci := 1) (q := (RX0, TX0, 13)) hX hC (cin rfl) rfl rfl) hl.1 rfl (Nat.le_of_ble_eq_true rfl) ⟨Nat.zero_le _, Nat.zero_le _⟩ dX0_feed_11 (fun _ H locs hC => ?_)
    refine W.eq (g2 := F0 m 14 ls [.int (-1000001)]) rfl ?_
    have hs : c_feed fd tp sc b n = (((-1000001), sc, tp, p_find fd 0) : Int32 × Row × Row × Row) := by exact c_feed_0 (by rw [s_feed, if_neg c_2])
    exact fr_i hx hb hr hlocks hX hC () (congrArg (fun z => some (Value.int z)) (t4_1 hs)) (((congrArg (fun z => cct G (pg d kp as un to z ((c_feed fd tp sc b n).2.2.2) ((c_feed fd tp sc b n).2.2.1) sh) sp) (t4_2 hs)).trans (congrArg (fun z => cct G (pg d kp as un to sc ((c_feed fd tp sc b n).2.2.2) z sh) sp) (t4_3 hs))).trans (congrArg (fun z => cct G (pg d kp as un to sc z tp sh) sp) (t4_4 hs))).symm dX0_feed_14
set_option maxRecDepth 100000 in
theorem m_X0_count {l : Launch} {G : Gc} {d kp as un to sc fd tp sh : Row} {sp : Nat → Option Nat} (hw : WF d) (what : Int32) : Cm l yX0_count (ws_ yX0_count cX0_count 2 (some .int)) ({ frames := 11, cells := 0, slots := 0, locals := 368 }) (cF G) [.ref (G.ad 5 0), .int what] (cct G (pg d kp as un to sc fd tp sh) sp) (fun u : Row => some (.int ((s_count d fd (sc 0) what).1))) (fun u => cct G (pg d kp u un to sc ((s_count d fd (sc 0) what).2) tp sh) sp) := by
  refine Cm.start (by decide) (Nat.le_of_ble_eq_true rfl) ?_
  intro p e s m below meth c hf hX hC ls hl
  obtain ⟨hx, hb, hr, hml, hown, hts, hlocks⟩ := hf
  have hl : lv_has ls 2 [(0, .ref (G.ad 5 0)), (1, .int what)] := hl
  have hown : s.vm.findClass "OwlEars" = some m.cls := hown
  refine lv_iload_n hx hb dX0_count_0 rfl (lv_at hl 1 rfl) ?_
  by_cases c_1 : what = 0
  · refine lv_tableIn (off := 47) (tgt := 48) hx hb dX0_count_1 (by rw [c_1]; decide) (by rw [c_1]; decide) (by rw [c_1]; rfl) (by decide) ?_
    refine lv_aload_n hx hb dX0_count_48 rfl (lv_at hl 0 rfl) ?_
    refine fg_get (C := RX0) (T := TX0) (N := 13) (ci := 1) (g := 5) (i := 0) (v := .ref (G.ad 0 0)) hx hb hown hts hX hC in_X0 rfl (cin rfl) rfl 3 (by decide) q425 (fun _ h => h) rfl dX0_count_49 ?_
    refine fg_getN (C := RX4) (T := TX4) (N := 9) (ci := 0) (g := 0) (i := 0) (v := .int (d 0)) hx hb hown hts hX hC in_X4 rfl (cin rfl) rfl 6 (by decide) (hX.2.2.1.F q259) (fun _ h => h) rfl dX0_count_52 ?_
    have hs : s_count d fd (sc 0) what = ((d 0, fd) : Int32 × Row) := by simp [s_count, c_1]
    exact fr_i hx hb hr hlocks hX hC as (congrArg (fun z => some (Value.int z)) (t2_1 hs)) (congrArg (fun z => cct G (pg d kp as un to sc z tp sh) sp) (t2_2 hs)).symm dX0_count_55
  by_cases c_2 : what = 1
  · refine lv_tableIn (off := 55) (tgt := 56) hx hb dX0_count_1 (by rw [c_2]; decide) (by rw [c_2]; decide) (by rw [c_2]; rfl) (by decide) ?_
    refine lv_aload_n hx hb dX0_count_56 rfl (lv_at hl 0 rfl) ?_
    refine fg_get (C := RX0) (T := TX0) (N := 13) (ci := 1) (g := 5) (i := 0) (v := .ref (G.ad 0 0)) hx hb hown hts hX hC in_X0 rfl (cin rfl) rfl 3 (by decide) q425 (fun _ h => h) rfl dX0_count_57 ?_
    refine fg_getN (C := RX4) (T := TX4) (N := 9) (ci := 0) (g := 0) (i := 0) (v := .int (d 1)) hx hb hown hts hX hC in_X4 rfl (cin rfl) rfl 4 (by decide) (hX.2.2.1.F q253) (fun _ h => h) rfl dX0_count_60 ?_
    have hs : s_count d fd (sc 0) what = ((d 1, fd) : Int32 × Row) := by simp [s_count, c_1, c_2]
    exact fr_i hx hb hr hlocks hX hC as (congrArg (fun z => some (Value.int z)) (t2_1 hs)) (congrArg (fun z => cct G (pg d kp as un to sc z tp sh) sp) (t2_2 hs)).symm dX0_count_63
  by_cases c_3 : what = 2
  · refine lv_tableIn (off := 63) (tgt := 64) hx hb dX0_count_1 (by rw [c_3]; decide) (by rw [c_3]; decide) (by rw [c_3]; rfl) (by decide) ?_
    refine lv_aload_n hx hb dX0_count_64 rfl (lv_at hl 0 rfl) ?_
    refine fc_V (As := []) (rest := []) hx hb hml hown hts hX hC (m_X0_havingIt hw) (lw_V q826 q828 qs13 q108 q829) hdV_X0_havingIt ⟨rfl, rfl⟩ ⟨Nat.le_of_ble_eq_true rfl, Nat.le_of_ble_eq_true rfl⟩ (fx_recv (g := 5) (i := 0) (ci := 1) (q := (RX0, TX0, 13)) hX hC (cin rfl) rfl rfl) hl.1 rfl (Nat.le_of_ble_eq_true rfl) ⟨Nat.zero_le _, Nat.zero_le _⟩ dX0_count_65 (fun u_4 H locs hC => ?_)
    refine W.eq (g2 := F0 m 68 ls [.int (p_having d)]) rfl ?_
    rw [show p_having d = nI (p_set (fun k => p_has d (nI k)) (ix (d 1))) from p_orr_set _ _ (by have := vin_lt hw.many; omega)]
    refine fc_S (As := [.int (nI ((p_set (fun k => p_has d (nI k)) (ix (d 1)))))]) (rest := []) hx hb hml hown hts hX hC (m_X0_ones (p_set (fun k => p_has d (nI k)) (ix (d 1))) (set_256 hw _)) (lw_S q1274 q1275 q108 q1276) hdS_X0_ones ⟨rfl, rfl⟩ ⟨Nat.le_of_ble_eq_true rfl, Nat.le_of_ble_eq_true rfl⟩ hl.1 rfl (Nat.le_of_ble_eq_true rfl) ⟨Nat.zero_le _, Nat.zero_le _⟩ dX0_count_68 (fun _ H locs hC => ?_)
    refine W.eq (g2 := F0 m 71 ls [.int (nI (p_pop ((p_set (fun k => p_has d (nI k)) (ix (d 1))))))]) rfl ?_
    have hs : s_count d fd (sc 0) what = ((nI (p_pop ((p_set (fun k => p_has d (nI k)) (ix (d 1))))), fd) : Int32 × Row) := by simp [s_count, c_1, c_2, c_3]
    exact fr_i hx hb hr hlocks hX hC u_4 (congrArg (fun z => some (Value.int z)) (t2_1 hs)) (congrArg (fun z => cct G (pg d kp u_4 un to sc z tp sh) sp) (t2_2 hs)).symm dX0_count_71
  by_cases c_6 : what = 3
  · refine lv_tableIn (off := 71) (tgt := 72) hx hb dX0_count_1 (by rw [c_6]; decide) (by rw [c_6]; decide) (by rw [c_6]; rfl) (by decide) ?_
    refine lv_aload_n hx hb dX0_count_72 rfl (lv_at hl 0 rfl) ?_
    refine fg_get (C := RX0) (T := TX0) (N := 13) (ci := 1) (g := 5) (i := 0) (v := .ref (G.ad 0 0)) hx hb hown hts hX hC in_X0 rfl (cin rfl) rfl 3 (by decide) q425 (fun _ h => h) rfl dX0_count_73 ?_
    refine fc_V (As := []) (rest := []) hx hb hml hown hts hX hC (m_X4_had hw) (lw_V q830 q831 q832 q115 q833) hdV_X4_had ⟨rfl, rfl⟩ ⟨Nat.le_of_ble_eq_true rfl, Nat.le_of_ble_eq_true rfl⟩ (fx_recv (g := 0) (i := 0) (ci := 0) (q := (RX4, TX4, 9)) hX hC (cin rfl) rfl rfl) hl.1 rfl (Nat.le_of_ble_eq_true rfl) ⟨Nat.zero_le _, Nat.zero_le _⟩ dX0_count_76 (fun _ H locs hC => ?_)
    refine W.eq (g2 := F0 m 79 ls [.int (p_sum (fun k => d (95 + 4 * k)) (ix (d 1)))]) rfl ?_
    have hs : s_count d fd (sc 0) what = ((p_sum (fun k => d (95 + 4 * k)) (ix (d 1)), fd) : Int32 × Row) := by simp [s_count, c_1, c_2, c_3, c_6]
    exact fr_i hx hb hr hlocks hX hC as (congrArg (fun z => some (Value.int z)) (t2_1 hs)) (congrArg (fun z => cct G (pg d kp as un to sc z tp sh) sp) (t2_2 hs)).symm dX0_count_79
  by_cases c_8 : what = 4
  · refine lv_tableIn (off := 79) (tgt := 80) hx hb dX0_count_1 (by rw [c_8]; decide) (by rw [c_8]; decide) (by rw [c_8]; rfl) (by decide) ?_
    refine lv_aload_n hx hb dX0_count_80 rfl (lv_at hl 0 rfl) ?_
    refine fg_get (C := RX0) (T := TX0) (N := 13) (ci := 1) (g := 5) (i := 0) (v := .ref (G.ad 0 0)) hx hb hown hts hX hC in_X0 rfl (cin rfl) rfl 3 (by decide) q425 (fun _ h => h) rfl dX0_count_81 ?_
    refine fc_V (As := []) (rest := []) hx hb hml hown hts hX hC (m_X4_snows) (lw_V q834 q835 q836 q115 q837) hdV_X4_snows ⟨rfl, rfl⟩ ⟨Nat.le_of_ble_eq_true rfl, Nat.le_of_ble_eq_true rfl⟩ (fx_recv (g := 0) (i := 0) (ci := 0) (q := (RX4, TX4, 9)) hX hC (cin rfl) rfl rfl) hl.1 rfl (Nat.le_of_ble_eq_true rfl) ⟨Nat.zero_le _, Nat.zero_le _⟩ dX0_count_84 (fun _ H locs hC => ?_)
    refine W.eq (g2 := F0 m 87 ls [.int (p_sum (fun k => d (20 + k)) 36)]) rfl ?_
    have hs : s_count d fd (sc 0) what = ((p_sum (fun k => d (20 + k)) 36, fd) : Int32 × Row) := by simp [s_count, c_1, c_2, c_3, c_6, c_8]
    exact fr_i hx hb hr hlocks hX hC as (congrArg (fun z => some (Value.int z)) (t2_1 hs)) (congrArg (fun z => cct G (pg d kp as un to sc z tp sh) sp) (t2_2 hs)).symm dX0_count_87
  by_cases c_10 : what = 5
  · refine lv_tableIn (off := 87) (tgt := 88) hx hb dX0_count_1 (by rw [c_10]; decide) (by rw [c_10]; decide) (by rw [c_10]; rfl) (by decide) ?_
    refine lv_aload_n hx hb dX0_count_88 rfl (lv_at hl 0 rfl) ?_
    refine fg_get (C := RX0) (T := TX0) (N := 13) (ci := 1) (g := 5) (i := 0) (v := .int (sc 0)) hx hb hown hts hX hC in_X0 rfl (cin rfl) rfl 2 (by decide) q423 (fun _ h => h) rfl dX0_count_89 ?_
    have hs : s_count d fd (sc 0) what = ((sc 0, fd) : Int32 × Row) := by simp [s_count, c_1, c_2, c_3, c_6, c_8, c_10]
    exact fr_i hx hb hr hlocks hX hC as (congrArg (fun z => some (Value.int z)) (t2_1 hs)) (congrArg (fun z => cct G (pg d kp as un to sc z tp sh) sp) (t2_2 hs)).symm dX0_count_92
  by_cases c_11 : what = 6
  · refine lv_tableIn (off := 92) (tgt := 93) hx hb dX0_count_1 (by rw [c_11]; decide) (by rw [c_11]; decide) (by rw [c_11]; rfl) (by decide) ?_
    refine lv_aload_n hx hb dX0_count_93 rfl (lv_at hl 0 rfl) ?_
    refine fg_get (C := RX0) (T := TX0) (N := 13) (ci := 1) (g := 5) (i := 0) (v := .ref (G.ad 0 0)) hx hb hown hts hX hC in_X0 rfl (cin rfl) rfl 3 (by decide) q425 (fun _ h => h) rfl dX0_count_94 ?_
    refine fg_getN (C := RX4) (T := TX4) (N := 9) (ci := 0) (g := 0) (i := 0) (v := .int (d 2)) hx hb hown hts hX hC in_X4 rfl (cin rfl) rfl 7 (by decide) (hX.2.2.1.F q261) (fun _ h => h) rfl dX0_count_97 ?_
    have hs : s_count d fd (sc 0) what = ((d 2, fd) : Int32 × Row) := by simp [s_count, c_1, c_2, c_3, c_6, c_8, c_10, c_11]
    exact fr_i hx hb hr hlocks hX hC as (congrArg (fun z => some (Value.int z)) (t2_1 hs)) (congrArg (fun z => cct G (pg d kp as un to sc z tp sh) sp) (t2_2 hs)).symm dX0_count_100
  by_cases c_12 : what = 7
  · refine lv_tableIn (off := 100) (tgt := 101) hx hb dX0_count_1 (by rw [c_12]; decide) (by rw [c_12]; decide) (by rw [c_12]; rfl) (by decide) ?_
    refine lv_aload_n hx hb dX0_count_101 rfl (lv_at hl 0 rfl) ?_
    refine fc_V (As := []) (rest := []) hx hb hml hown hts hX hC (m_X0_holding) (lw_V q1283 q1285 qs54 q108 q1286) hdV_X0_holding ⟨rfl, rfl⟩ ⟨Nat.le_of_ble_eq_true rfl, Nat.le_of_ble_eq_true rfl⟩ (fx_recv (g := 5) (i := 0) (ci := 1) (q := (RX0, TX0, 13)) hX hC (cin rfl) rfl rfl) hl.1 rfl (Nat.le_of_ble_eq_true rfl) ⟨Nat.zero_le _, Nat.zero_le _⟩ dX0_count_102 (fun _ H locs hC => ?_)
    refine W.eq (g2 := F0 m 105 ls [.int (p_holding d)]) rfl ?_
    have hs : s_count d fd (sc 0) what = ((p_holding d, fd) : Int32 × Row) := by simp [s_count, c_1, c_2, c_3, c_6, c_8, c_10, c_11, c_12]
    exact fr_i hx hb hr hlocks hX hC as (congrArg (fun z => some (Value.int z)) (t2_1 hs)) (congrArg (fun z => cct G (pg d kp as un to sc z tp sh) sp) (t2_2 hs)).symm dX0_count_105
  refine lv_tableOut (tgt := 106) hx hb dX0_count_1 (tabo 0 8 (by decide) (fun k hk => match k, hk with | 0, _ => c_1 | 1, _ => c_2 | 2, _ => c_3 | 3, _ => c_6 | 4, _ => c_8 | 5, _ => c_10 | 6, _ => c_11 | 7, _ => c_12) rfl) (by decide) ?_
  refine lv_aload_n hx hb dX0_count_106 rfl (lv_at hl 0 rfl) ?_
  refine lv_iconst (v := 0) hx hb dX0_count_107 rfl ?_
  refine fc_V (As := [.int 0]) (rest := []) hx hb hml hown hts hX hC (m_X0_finding 0 (vin_b rfl)) (lw_V q472 q474 qs2 q108 q475) hdV_X0_finding ⟨rfl, rfl⟩ ⟨Nat.le_of_ble_eq_true rfl, Nat.le_of_ble_eq_true rfl⟩ (fx_recv (g := 5) (i := 0) (ci := 1) (q := (RX0, TX0, 13)) hX hC (cin rfl) rfl rfl) hl.1 rfl (Nat.le_of_ble_eq_true rfl) ⟨Nat.zero_le _, Nat.zero_le _⟩ dX0_count_108 (fun _ H locs hC => ?_)
  refine W.eq (g2 := F0 m 111 ls [.int (-1000001)]) rfl ?_
  have hs : s_count d fd (sc 0) what = (((-1000001), p_find fd 0) : Int32 × Row) := by simp [s_count, c_1, c_2, c_3, c_6, c_8, c_10, c_11, c_12]
  exact fr_i hx hb hr hlocks hX hC as (congrArg (fun z => some (Value.int z)) (t2_1 hs)) (congrArg (fun z => cct G (pg d kp as un to sc z tp sh) sp) (t2_2 hs)).symm dX0_count_111
set_option maxRecDepth 100000 in
theorem m_X0_status {l : Launch} {G : Gc} {d kp as un to sc fd tp sh : Row} {sp : Nat → Option Nat} (which : Int32) : Cm l yX0_status (ws_ yX0_status cX0_status 4 (some .int)) ({ frames := 1, cells := 0, slots := 0, locals := 22 }) (cF G) [.ref (G.ad 5 0), .int which] (cct G (pg d kp as un to sc fd tp sh) sp) (fun _ : Unit => some (.int ((s_status fd which).1))) (fun _ => cct G (pg d kp as un to sc ((s_status fd which).2) tp sh) sp) := by
  refine Cm.start (by decide) (Nat.le_of_ble_eq_true rfl) ?_
  intro p e s m below meth c hf hX hC ls hl
  obtain ⟨hx, hb, hr, hml, hown, hts, hlocks⟩ := hf
  have hl : lv_has ls 4 [(0, .ref (G.ad 5 0)), (1, .int which)] := hl
  have hown : s.vm.findClass "OwlEars" = some m.cls := hown
  refine lv_iload_n hx hb dX0_status_0 rfl (lv_at hl 1 rfl) ?_
  refine lv_iconst (v := (-1)) hx hb dX0_status_1 rfl ?_
  refine lv_bipush (v := 6) hx hb dX0_status_2 rfl ?_
  refine fc_S (As := [.int which, .int (-1), .int 6]) (rest := []) hx hb hml hown hts hX hC (m_X0_in which (-1) 6) (lw_S q469 q470 q108 q471) hdS_X0_in ⟨rfl, rfl⟩ ⟨Nat.le_of_ble_eq_true rfl, Nat.le_of_ble_eq_true rfl⟩ hl.1 rfl (Nat.le_of_ble_eq_true rfl) ⟨Nat.zero_le _, Nat.zero_le _⟩ dX0_status_4 (fun _ H locs hC => ?_)
  refine W.eq (g2 := F0 m 7 ls [.int (b2i (p_in which (-1) 6))]) rfl ?_
  refine fb_ne (tgt := 16) hx hb dX0_status_7 (by decide) (fun c_2 => ?_) (fun c_2 => ?_)
  · refine lv_iconst (v := 0) hx hb dX0_status_16 rfl ?_
    refine lv_istore_n (lv' := [(2, .int 0), (0, .ref (G.ad 5 0)), (1, .int which)]) hx hb dX0_status_17 rfl hl (by decide) rfl (fun ls hl => ?_)
    refine lv_iconst (v := 0) hx hb dX0_status_18 rfl ?_
    refine lv_istore_n (lv' := [(3, .int 0), (2, .int 0), (0, .ref (G.ad 5 0)), (1, .int which)]) hx hb dX0_status_19 rfl hl (by decide) rfl (fun ls hl => ?_)
    have L_3 : ∀ (k3 i3 : Nat), i3 + k3 = 7 → ∀ (H : Heap) (locs : List Loc), fC (cF G) (cct G (pg d kp as un to sc fd tp sh) sp) s.heap H locs → ∀ ls : Array Slot, lv_has ls 4 [(0, .ref (G.ad 5 0)), (1, .int which), (2, .int (p_sum (fun k => if which = -1 ∨ which = nI k then fd k else 0) i3)), (3, .int (nI i3))] → WG p l e ({ frames := 1, cells := 0, slots := 0, locals := 22 }) s m (([.ref (G.ad 5 0), .int which] : List Value).toArray) below meth c H locs (cF G) (fun _ : Unit => some (.int ((s_status fd which).1))) (fun _ => cct G (pg d kp as un to sc ((s_status fd which).2) tp sh) sp) (F0 m 20 ls []) := by
      intro k3
      induction k3 with
      | zero =>
        intro i3 hi3 H locs hC ls hl
        obtain rfl : i3 = 7 := by omega
        refine lv_iload_n hx hb dX0_status_20 rfl (lv_at hl 3 rfl) ?_
        refine lv_aload_n hx hb dX0_status_21 rfl (lv_at hl 0 rfl) ?_
        refine fg_get (C := RX0) (T := TX0) (N := 13) (ci := 1) (g := 5) (i := 0) (v := .ref (G.ad 5 8)) hx hb hown hts hX hC in_X0 rfl (cin rfl) rfl 11 (by decide) q433 (fun _ h => h) rfl dX0_status_22 ?_
        refine fg_alen (g := 5) (i := 8) (t0 := 0) (v := 7) hx hb hX hC (cin rfl) rfl rfl rfl dX0_status_25 ?_
        refine fj_ge (tgt := 58) hx hb dX0_status_26 (by decide) (fun _ => ?_) (fun z_4 => absurd z_4 (nlt_ix (n := 7)))
        refine lv_iload_n hx hb dX0_status_58 rfl (lv_at hl 2 rfl) ?_
        have hs : s_status fd which = ((p_sum (fun k => if which = -1 ∨ which = nI k then fd k else 0) 7, fd) : Int32 × Row) := by rw [s_status, if_pos c_2, ← st_sum c_2]
        exact fr_i hx hb hr hlocks hX hC () (congrArg (fun z => some (Value.int z)) (t2_1 hs)) (congrArg (fun z => cct G (pg d kp as un to sc z tp sh) sp) (t2_2 hs)).symm dX0_status_59
      | succ k3 ih3 =>
        intro i3 hi3 H locs hC ls hl
        refine lv_iload_n hx hb dX0_status_20 rfl (lv_at hl 3 rfl) ?_
        refine lv_aload_n hx hb dX0_status_21 rfl (lv_at hl 0 rfl) ?_
        refine fg_get (C := RX0) (T := TX0) (N := 13) (ci := 1) (g := 5) (i := 0) (v := .ref (G.ad 5 8)) hx hb hown hts hX hC in_X0 rfl (cin rfl) rfl 11 (by decide) q433 (fun _ h => h) rfl dX0_status_22 ?_
        refine fg_alen (g := 5) (i := 8) (t0 := 0) (v := 7) hx hb hX hC (cin rfl) rfl rfl rfl dX0_status_25 ?_
        refine fj_ge (tgt := 58) hx hb dX0_status_26 (by decide) (fun z_5 => absurd (lt_ix (n := 7) (show i3 < 7 by omega)) z_5) (fun _ => ?_)
        refine lv_iload_n hx hb dX0_status_29 rfl (lv_at hl 2 rfl) ?_
        refine lv_iload_n hx hb dX0_status_30 rfl (lv_at hl 1 rfl) ?_
        refine lv_iconst (v := (-1)) hx hb dX0_status_31 rfl ?_
        refine lv_icmp_eq (tgt := 40) hx hb dX0_status_32 (by decide) (fun c_6 => ?_) (fun c_6 => ?_)
        · refine lv_aload_n hx hb dX0_status_40 rfl (lv_at hl 0 rfl) ?_
          refine fg_get (C := RX0) (T := TX0) (N := 13) (ci := 1) (g := 5) (i := 0) (v := .ref (G.ad 5 8)) hx hb hown hts hX hC in_X0 rfl (cin rfl) rfl 11 (by decide) q433 (fun _ h => h) rfl dX0_status_41 ?_
          refine lv_iload_n hx hb dX0_status_44 rfl (lv_at hl 3 rfl) ?_
          refine fg_iald (g := 5) (i := 8) (t0 := 0) (v := fd i3) hx hb hX hC (cin rfl) rfl rfl (vp_in_nI (show i3 < 7 by omega) (by decide)) (congrArg (fun z => fd (z)) (nI_clamp (by omega))) dX0_status_45 ?_
          refine lv_goto (tgt := 50) hx hb dX0_status_46 (by decide) ?_
          refine lv_iadd hx hb dX0_status_50 ?_
          refine lv_istore_n (lv' := [(2, .int ((p_sum (fun k => if which = -1 ∨ which = nI k then fd k else 0) i3) + (fd i3))), (0, .ref (G.ad 5 0)), (1, .int which), (3, .int (nI i3))]) hx hb dX0_status_51 rfl hl (by decide) rfl (fun ls hl => ?_)
          refine lv_iinc (v := nI (i3 + 1)) (lv' := [(3, .int (nI (i3 + 1))), (2, .int ((p_sum (fun k => if which = -1 ∨ which = nI k then fd k else 0) i3) + (fd i3))), (0, .ref (G.ad 5 0)), (1, .int which)]) hx hb dX0_status_52 hl (k := 3) rfl (nI_1 _) (by decide) rfl (fun ls hl => ?_)
          refine lv_goto (tgt := 20) hx hb dX0_status_55 (by decide) ?_
          rw [show (p_sum (fun k => if which = -1 ∨ which = nI k then fd k else 0) i3) + (fd i3) = p_sum (fun k => if which = -1 ∨ which = nI k then fd k else 0) (i3 + 1) from congrArg (fun z => p_sum (fun k => if which = -1 ∨ which = nI k then fd k else 0) i3 + z) (show _ = (if which = -1 ∨ which = nI i3 then fd i3 else 0) from (if_pos (Or.inl c_6)).symm)] at hl
          exact ih3 (i3 + 1) (by omega) _ _ hC ls (lv_sub hl [2, 3, 1, 0] rfl)
        · refine lv_iload_n hx hb dX0_status_35 rfl (lv_at hl 1 rfl) ?_
          refine lv_iload_n hx hb dX0_status_36 rfl (lv_at hl 3 rfl) ?_
          refine lv_icmp_ne (tgt := 49) hx hb dX0_status_37 (by decide) (fun c_7 => ?_) (fun c_7 => ?_)
          · refine lv_iconst (v := 0) hx hb dX0_status_49 rfl ?_
            refine lv_iadd hx hb dX0_status_50 ?_
            refine lv_istore_n (lv' := [(2, .int ((p_sum (fun k => if which = -1 ∨ which = nI k then fd k else 0) i3) + 0)), (0, .ref (G.ad 5 0)), (1, .int which), (3, .int (nI i3))]) hx hb dX0_status_51 rfl hl (by decide) rfl (fun ls hl => ?_)
            refine lv_iinc (v := nI (i3 + 1)) (lv' := [(3, .int (nI (i3 + 1))), (2, .int ((p_sum (fun k => if which = -1 ∨ which = nI k then fd k else 0) i3) + 0)), (0, .ref (G.ad 5 0)), (1, .int which)]) hx hb dX0_status_52 hl (k := 3) rfl (nI_1 _) (by decide) rfl (fun ls hl => ?_)
            refine lv_goto (tgt := 20) hx hb dX0_status_55 (by decide) ?_
            rw [show (p_sum (fun k => if which = -1 ∨ which = nI k then fd k else 0) i3) + 0 = p_sum (fun k => if which = -1 ∨ which = nI k then fd k else 0) (i3 + 1) from congrArg (fun z => p_sum (fun k => if which = -1 ∨ which = nI k then fd k else 0) i3 + z) (show _ = (if which = -1 ∨ which = nI i3 then fd i3 else 0) from (if_neg (fun z => z.elim c_6 c_7)).symm)] at hl
            exact ih3 (i3 + 1) (by omega) _ _ hC ls (lv_sub hl [2, 3, 1, 0] rfl)
          · refine lv_aload_n hx hb dX0_status_40 rfl (lv_at hl 0 rfl) ?_
            refine fg_get (C := RX0) (T := TX0) (N := 13) (ci := 1) (g := 5) (i := 0) (v := .ref (G.ad 5 8)) hx hb hown hts hX hC in_X0 rfl (cin rfl) rfl 11 (by decide) q433 (fun _ h => h) rfl dX0_status_41 ?_
            refine lv_iload_n hx hb dX0_status_44 rfl (lv_at hl 3 rfl) ?_
            refine fg_iald (g := 5) (i := 8) (t0 := 0) (v := fd i3) hx hb hX hC (cin rfl) rfl rfl (vp_in_nI (show i3 < 7 by omega) (by decide)) (congrArg (fun z => fd (z)) (nI_clamp (by omega))) dX0_status_45 ?_
            refine lv_goto (tgt := 50) hx hb dX0_status_46 (by decide) ?_
            refine lv_iadd hx hb dX0_status_50 ?_
            refine lv_istore_n (lv' := [(2, .int ((p_sum (fun k => if which = -1 ∨ which = nI k then fd k else 0) i3) + (fd i3))), (0, .ref (G.ad 5 0)), (1, .int which), (3, .int (nI i3))]) hx hb dX0_status_51 rfl hl (by decide) rfl (fun ls hl => ?_)
            refine lv_iinc (v := nI (i3 + 1)) (lv' := [(3, .int (nI (i3 + 1))), (2, .int ((p_sum (fun k => if which = -1 ∨ which = nI k then fd k else 0) i3) + (fd i3))), (0, .ref (G.ad 5 0)), (1, .int which)]) hx hb dX0_status_52 hl (k := 3) rfl (nI_1 _) (by decide) rfl (fun ls hl => ?_)
            refine lv_goto (tgt := 20) hx hb dX0_status_55 (by decide) ?_
            rw [show (p_sum (fun k => if which = -1 ∨ which = nI k then fd k else 0) i3) + (fd i3) = p_sum (fun k => if which = -1 ∨ which = nI k then fd k else 0) (i3 + 1) from congrArg (fun z => p_sum (fun k => if which = -1 ∨ which = nI k then fd k else 0) i3 + z) (show _ = (if which = -1 ∨ which = nI i3 then fd i3 else 0) from (if_pos (Or.inr c_7)).symm)] at hl
            exact ih3 (i3 + 1) (by omega) _ _ hC ls (lv_sub hl [2, 3, 1, 0] rfl)
    exact L_3 7 0 (by omega) _ _ hC ls (lv_sub hl [2, 3, 1, 0] rfl)
  · refine lv_aload_n hx hb dX0_status_10 rfl (lv_at hl 0 rfl) ?_
    refine lv_iconst (v := 0) hx hb dX0_status_11 rfl ?_
    refine fc_V (As := [.int 0]) (rest := []) hx hb hml hown hts hX hC (m_X0_finding 0 (vin_b rfl)) (lw_V q472 q474 qs2 q108 q475) hdV_X0_finding ⟨rfl, rfl⟩ ⟨Nat.le_of_ble_eq_true rfl, Nat.le_of_ble_eq_true rfl⟩ (fx_recv (g := 5) (i := 0) (ci := 1) (q := (RX0, TX0, 13)) hX hC (cin rfl) rfl rfl) hl.1 rfl (Nat.le_of_ble_eq_true rfl) ⟨Nat.zero_le _, Nat.zero_le _⟩ dX0_status_12 (fun _ H locs hC => ?_)
    refine W.eq (g2 := F0 m 15 ls [.int (-1000001)]) rfl ?_
    have hs : s_status fd which = (((-1000001), p_find fd 0) : Int32 × Row) := by rw [s_status, if_neg c_2]
    exact fr_i hx hb hr hlocks hX hC () (congrArg (fun z => some (Value.int z)) (t2_1 hs)) (congrArg (fun z => cct G (pg d kp as un to sc z tp sh) sp) (t2_2 hs)).symm dX0_status_15
set_option maxRecDepth 100000 in
theorem m_X0_isHeardSo {l : Launch} {G : Gc} {d kp as un to sc fd tp sh : Row} {sp : Nat → Option Nat} (hw : WF d) (v ears : Int32) : Cm l yX0_isHeardSo (ws_ yX0_isHeardSo cX0_isHeardSo 5 (some .boolean)) ({ frames := 4, cells := 0, slots := 0, locals := 81 }) (cF G) [.ref (G.ad 5 0), .int v, .int ears] (cct G (pg d kp as un to sc fd tp sh) sp) (fun _ : Unit => some (.int (b2i (p_isSo d v ears)))) (fun _ => cct G (pg d kp as un to sc fd tp sh) sp) := by
  refine Cm.start (by decide) (Nat.le_of_ble_eq_true rfl) ?_
  intro p e s m below meth c hf hX hC ls hl
  obtain ⟨hx, hb, hr, hml, hown, hts, hlocks⟩ := hf
  have hl : lv_has ls 5 [(0, .ref (G.ad 5 0)), (1, .int v), (2, .int ears)] := hl
  have hown : s.vm.findClass "OwlEars" = some m.cls := hown
  refine lv_iload_n hx hb dX0_isHeardSo_0 rfl (lv_at hl 1 rfl) ?_
  refine lv_iconst (v := (-1)) hx hb dX0_isHeardSo_1 rfl ?_
  refine lv_bipush (v := 8) hx hb dX0_isHeardSo_2 rfl ?_
  refine fc_S (As := [.int v, .int (-1), .int 8]) (rest := []) hx hb hml hown hts hX hC (m_X0_in v (-1) 8) (lw_S q469 q470 q108 q471) hdS_X0_in ⟨rfl, rfl⟩ ⟨Nat.le_of_ble_eq_true rfl, Nat.le_of_ble_eq_true rfl⟩ hl.1 rfl (Nat.le_of_ble_eq_true rfl) ⟨Nat.zero_le _, Nat.zero_le _⟩ dX0_isHeardSo_4 (fun _ H locs hC => ?_)
  refine W.eq (g2 := F0 m 7 ls [.int (b2i (p_in v (-1) 8))]) rfl ?_
  refine fb_ne (tgt := 12) hx hb dX0_isHeardSo_7 (by decide) (fun c_2 => ?_) (fun c_2 => ?_)
  · refine lv_iload_n hx hb dX0_isHeardSo_12 rfl (lv_at hl 2 rfl) ?_
    refine lv_iconst (v := 2) hx hb dX0_isHeardSo_13 rfl ?_
    refine lv_icmp_eq (tgt := 32) hx hb dX0_isHeardSo_14 (by decide) (fun c_3 => ?_) (fun c_3 => ?_)
    · refine lv_iconst (v := 1) hx hb dX0_isHeardSo_32 rfl ?_
      refine lv_goto (tgt := 37) hx hb dX0_isHeardSo_33 (by decide) ?_
      refine lv_istore_n (lv' := [(3, .int 1), (0, .ref (G.ad 5 0)), (1, .int v), (2, .int ears)]) hx hb dX0_isHeardSo_37 rfl hl (by decide) rfl (fun ls hl => ?_)
      refine lv_iload_n hx hb dX0_isHeardSo_38 rfl (lv_at hl 3 rfl) ?_
      refine lv_iconst (v := 1) hx hb dX0_isHeardSo_39 rfl ?_
      refine lv_icmp_eq (tgt := 58) hx hb dX0_isHeardSo_40 (by decide) (fun c_4 => ?_) (fun c_4 => ?_)
      · refine lv_iconst (v := 1) hx hb dX0_isHeardSo_58 rfl ?_
        refine lv_goto (tgt := 63) hx hb dX0_isHeardSo_59 (by decide) ?_
        refine lv_istore (lv' := [(4, .int 1), (3, .int 1), (0, .ref (G.ad 5 0)), (1, .int v), (2, .int ears)]) hx hb dX0_isHeardSo_63 hl (by decide) rfl (fun ls hl => ?_)
        refine lv_iload_n hx hb dX0_isHeardSo_65 rfl (lv_at hl 3 rfl) ?_
        refine lv_iconst (v := (-1)) hx hb dX0_isHeardSo_66 rfl ?_
        refine lv_icmp_ne (tgt := 88) hx hb dX0_isHeardSo_67 (by decide) (fun c_5 => ?_) (fun c_5 => ?_)
        · refine lv_aload_n hx hb dX0_isHeardSo_88 rfl (lv_at hl 2 rfl) ?_
          refine fg_get (C := RX0) (T := TX0) (N := 13) (ci := 1) (g := 5) (i := 0) (v := .ref (G.ad 0 0)) hx hb hown hts hX hC in_X0 rfl (cin rfl) rfl 3 (by decide) q425 (fun _ h => h) rfl dX0_isHeardSo_89 ?_
          refine fc_V (As := []) (rest := []) hx hb hml hown hts hX hC (m_X4_hears hw) (lw_V q806 q807 q808 q115 q809) hdV_X4_hears ⟨rfl, rfl⟩ ⟨Nat.le_of_ble_eq_true rfl, Nat.le_of_ble_eq_true rfl⟩ (fx_recv (g := 0) (i := 0) (ci := 0) (q := (RX4, TX4, 9)) hX hC (cin rfl) rfl rfl) hl.1 rfl (Nat.le_of_ble_eq_true rfl) ⟨Nat.zero_le _, Nat.zero_le _⟩ dX0_isHeardSo_92 (fun _ H locs hC => ?_)
          refine W.eq (g2 := F0 m 95 ls [.int (b2i (p_hears d))]) rfl ?_
          refine fb_eq (tgt := 111) hx hb dX0_isHeardSo_95 (by decide) (fun c_7 => ?_) (fun c_7 => ?_)
          · refine lv_iconst (v := 0) hx hb dX0_isHeardSo_111 rfl ?_
            exact fr_z hx hb hr rfl hlocks hX hC () (congrArg (fun z => some (Value.int z)) (b2i_f (by grind))) rfl dX0_isHeardSo_112
          · refine lv_iload_n hx hb dX0_isHeardSo_98 rfl (lv_at hl 1 rfl) ?_
            refine lv_if_eq (tgt := 111) hx hb dX0_isHeardSo_99 (by decide) (fun z_8 => absurd z_8 (by decide)) (fun _ => ?_)
            refine lv_iload hx hb dX0_isHeardSo_102 (lv_at hl 0 rfl) ?_
            refine lv_if_eq (tgt := 111) hx hb dX0_isHeardSo_104 (by decide) (fun z_9 => absurd z_9 (by decide)) (fun _ => ?_)
            refine lv_iconst (v := 1) hx hb dX0_isHeardSo_107 rfl ?_
            refine lv_goto (tgt := 112) hx hb dX0_isHeardSo_108 (by decide) ?_
            exact fr_z hx hb hr rfl hlocks hX hC () (congrArg (fun z => some (Value.int z)) (b2i_t (by grind))) rfl dX0_isHeardSo_112
        · refine lv_aload_n hx hb dX0_isHeardSo_70 rfl (lv_at hl 2 rfl) ?_
          refine fg_get (C := RX0) (T := TX0) (N := 13) (ci := 1) (g := 5) (i := 0) (v := .ref (G.ad 0 0)) hx hb hown hts hX hC in_X0 rfl (cin rfl) rfl 3 (by decide) q425 (fun _ h => h) rfl dX0_isHeardSo_71 ?_
          refine fc_V (As := []) (rest := []) hx hb hml hown hts hX hC (m_X4_hears hw) (lw_V q806 q807 q808 q115 q809) hdV_X4_hears ⟨rfl, rfl⟩ ⟨Nat.le_of_ble_eq_true rfl, Nat.le_of_ble_eq_true rfl⟩ (fx_recv (g := 0) (i := 0) (ci := 0) (q := (RX4, TX4, 9)) hX hC (cin rfl) rfl rfl) hl.1 rfl (Nat.le_of_ble_eq_true rfl) ⟨Nat.zero_le _, Nat.zero_le _⟩ dX0_isHeardSo_74 (fun _ H locs hC => ?_)
          refine W.eq (g2 := F0 m 77 ls [.int (b2i (p_hears d))]) rfl ?_
          refine fb_ne (tgt := 84) hx hb dX0_isHeardSo_77 (by decide) (fun c_11 => ?_) (fun c_11 => ?_)
          · refine lv_iconst (v := 0) hx hb dX0_isHeardSo_84 rfl ?_
            refine lv_goto (tgt := 112) hx hb dX0_isHeardSo_85 (by decide) ?_
            exact fr_z hx hb hr rfl hlocks hX hC () (congrArg (fun z => some (Value.int z)) (b2i_f (by grind))) rfl dX0_isHeardSo_112
          · refine lv_iconst (v := 1) hx hb dX0_isHeardSo_80 rfl ?_
            refine lv_goto (tgt := 112) hx hb dX0_isHeardSo_81 (by decide) ?_
            exact fr_z hx hb hr rfl hlocks hX hC () (congrArg (fun z => some (Value.int z)) (b2i_t (by grind))) rfl dX0_isHeardSo_112
      · refine lv_iload_n hx hb dX0_isHeardSo_43 rfl (lv_at hl 2 rfl) ?_
        refine lv_iconst (v := 3) hx hb dX0_isHeardSo_44 rfl ?_
        refine fw_irem hx hb dX0_isHeardSo_45 (by decide) ?_
        refine lv_iconst (v := 1) hx hb dX0_isHeardSo_46 rfl ?_
        refine lv_isub hx hb dX0_isHeardSo_47 ?_
        refine lv_aload_n hx hb dX0_isHeardSo_48 rfl (lv_at hl 1 rfl) ?_
        refine fg_get (C := RX0) (T := TX0) (N := 13) (ci := 1) (g := 5) (i := 0) (v := .ref (G.ad 0 0)) hx hb hown hts hX hC in_X0 rfl (cin rfl) rfl 3 (by decide) q425 (fun _ h => h) rfl dX0_isHeardSo_49 ?_
        refine fc_V (As := []) (rest := [.int ((rm v 3) - 1)]) hx hb hml hown hts hX hC (m_X4_high) (lw_V q843 q816 q817 q115 q818) hdV_X4_high ⟨rfl, rfl⟩ ⟨Nat.le_of_ble_eq_true rfl, Nat.le_of_ble_eq_true rfl⟩ (fx_recv (g := 0) (i := 0) (ci := 0) (q := (RX4, TX4, 9)) hX hC (cin rfl) rfl rfl) hl.1 rfl (Nat.le_of_ble_eq_true rfl) ⟨Nat.zero_le _, Nat.zero_le _⟩ dX0_isHeardSo_52 (fun _ H locs hC => ?_)
        refine W.eq (g2 := F0 m 55 ls [.int (p_high d), .int ((rm v 3) - 1)]) rfl ?_
        refine lv_icmp_ne (tgt := 62) hx hb dX0_isHeardSo_55 (by decide) (fun c_13 => ?_) (fun c_13 => ?_)
        · refine lv_iconst (v := 0) hx hb dX0_isHeardSo_62 rfl ?_
          refine lv_istore (lv' := [(4, .int 0), (3, .int 1), (0, .ref (G.ad 5 0)), (1, .int v), (2, .int ears)]) hx hb dX0_isHeardSo_63 hl (by decide) rfl (fun ls hl => ?_)
          refine lv_iload_n hx hb dX0_isHeardSo_65 rfl (lv_at hl 3 rfl) ?_
          refine lv_iconst (v := (-1)) hx hb dX0_isHeardSo_66 rfl ?_
          refine lv_icmp_ne (tgt := 88) hx hb dX0_isHeardSo_67 (by decide) (fun c_14 => ?_) (fun c_14 => ?_)
          · refine lv_aload_n hx hb dX0_isHeardSo_88 rfl (lv_at hl 2 rfl) ?_
            refine fg_get (C := RX0) (T := TX0) (N := 13) (ci := 1) (g := 5) (i := 0) (v := .ref (G.ad 0 0)) hx hb hown hts hX hC in_X0 rfl (cin rfl) rfl 3 (by decide) q425 (fun _ h => h) rfl dX0_isHeardSo_89 ?_
            refine fc_V (As := []) (rest := []) hx hb hml hown hts hX hC (m_X4_hears hw) (lw_V q806 q807 q808 q115 q809) hdV_X4_hears ⟨rfl, rfl⟩ ⟨Nat.le_of_ble_eq_true rfl, Nat.le_of_ble_eq_true rfl⟩ (fx_recv (g := 0) (i := 0) (ci := 0) (q := (RX4, TX4, 9)) hX hC (cin rfl) rfl rfl) hl.1 rfl (Nat.le_of_ble_eq_true rfl) ⟨Nat.zero_le _, Nat.zero_le _⟩ dX0_isHeardSo_92 (fun _ H locs hC => ?_)
            refine W.eq (g2 := F0 m 95 ls [.int (b2i (p_hears d))]) rfl ?_
            refine fb_eq (tgt := 111) hx hb dX0_isHeardSo_95 (by decide) (fun c_16 => ?_) (fun c_16 => ?_)
            · refine lv_iconst (v := 0) hx hb dX0_isHeardSo_111 rfl ?_
              exact fr_z hx hb hr rfl hlocks hX hC () (congrArg (fun z => some (Value.int z)) (b2i_f (by grind))) rfl dX0_isHeardSo_112
            · refine lv_iload_n hx hb dX0_isHeardSo_98 rfl (lv_at hl 1 rfl) ?_
              refine lv_if_eq (tgt := 111) hx hb dX0_isHeardSo_99 (by decide) (fun z_17 => absurd z_17 (by decide)) (fun _ => ?_)
              refine lv_iload hx hb dX0_isHeardSo_102 (lv_at hl 0 rfl) ?_
              refine lv_if_eq (tgt := 111) hx hb dX0_isHeardSo_104 (by decide) (fun _ => ?_) (fun z_18 => absurd (by decide) z_18)
              refine lv_iconst (v := 0) hx hb dX0_isHeardSo_111 rfl ?_
              exact fr_z hx hb hr rfl hlocks hX hC () (congrArg (fun z => some (Value.int z)) (b2i_f (by grind))) rfl dX0_isHeardSo_112
          · refine lv_aload_n hx hb dX0_isHeardSo_70 rfl (lv_at hl 2 rfl) ?_
            refine fg_get (C := RX0) (T := TX0) (N := 13) (ci := 1) (g := 5) (i := 0) (v := .ref (G.ad 0 0)) hx hb hown hts hX hC in_X0 rfl (cin rfl) rfl 3 (by decide) q425 (fun _ h => h) rfl dX0_isHeardSo_71 ?_
            refine fc_V (As := []) (rest := []) hx hb hml hown hts hX hC (m_X4_hears hw) (lw_V q806 q807 q808 q115 q809) hdV_X4_hears ⟨rfl, rfl⟩ ⟨Nat.le_of_ble_eq_true rfl, Nat.le_of_ble_eq_true rfl⟩ (fx_recv (g := 0) (i := 0) (ci := 0) (q := (RX4, TX4, 9)) hX hC (cin rfl) rfl rfl) hl.1 rfl (Nat.le_of_ble_eq_true rfl) ⟨Nat.zero_le _, Nat.zero_le _⟩ dX0_isHeardSo_74 (fun _ H locs hC => ?_)
            refine W.eq (g2 := F0 m 77 ls [.int (b2i (p_hears d))]) rfl ?_
            refine fb_ne (tgt := 84) hx hb dX0_isHeardSo_77 (by decide) (fun c_20 => ?_) (fun c_20 => ?_)
            · refine lv_iconst (v := 0) hx hb dX0_isHeardSo_84 rfl ?_
              refine lv_goto (tgt := 112) hx hb dX0_isHeardSo_85 (by decide) ?_
              exact fr_z hx hb hr rfl hlocks hX hC () (congrArg (fun z => some (Value.int z)) (b2i_f (by grind))) rfl dX0_isHeardSo_112
            · refine lv_iconst (v := 1) hx hb dX0_isHeardSo_80 rfl ?_
              refine lv_goto (tgt := 112) hx hb dX0_isHeardSo_81 (by decide) ?_
              exact fr_z hx hb hr rfl hlocks hX hC () (congrArg (fun z => some (Value.int z)) (b2i_t (by grind))) rfl dX0_isHeardSo_112
        · refine lv_iconst (v := 1) hx hb dX0_isHeardSo_58 rfl ?_
          refine lv_goto (tgt := 63) hx hb dX0_isHeardSo_59 (by decide) ?_
          refine lv_istore (lv' := [(4, .int 1), (3, .int 1), (0, .ref (G.ad 5 0)), (1, .int v), (2, .int ears)]) hx hb dX0_isHeardSo_63 hl (by decide) rfl (fun ls hl => ?_)
          refine lv_iload_n hx hb dX0_isHeardSo_65 rfl (lv_at hl 3 rfl) ?_
          refine lv_iconst (v := (-1)) hx hb dX0_isHeardSo_66 rfl ?_
          refine lv_icmp_ne (tgt := 88) hx hb dX0_isHeardSo_67 (by decide) (fun c_21 => ?_) (fun c_21 => ?_)
          · refine lv_aload_n hx hb dX0_isHeardSo_88 rfl (lv_at hl 2 rfl) ?_
            refine fg_get (C := RX0) (T := TX0) (N := 13) (ci := 1) (g := 5) (i := 0) (v := .ref (G.ad 0 0)) hx hb hown hts hX hC in_X0 rfl (cin rfl) rfl 3 (by decide) q425 (fun _ h => h) rfl dX0_isHeardSo_89 ?_
            refine fc_V (As := []) (rest := []) hx hb hml hown hts hX hC (m_X4_hears hw) (lw_V q806 q807 q808 q115 q809) hdV_X4_hears ⟨rfl, rfl⟩ ⟨Nat.le_of_ble_eq_true rfl, Nat.le_of_ble_eq_true rfl⟩ (fx_recv (g := 0) (i := 0) (ci := 0) (q := (RX4, TX4, 9)) hX hC (cin rfl) rfl rfl) hl.1 rfl (Nat.le_of_ble_eq_true rfl) ⟨Nat.zero_le _, Nat.zero_le _⟩ dX0_isHeardSo_92 (fun _ H locs hC => ?_)
            refine W.eq (g2 := F0 m 95 ls [.int (b2i (p_hears d))]) rfl ?_
            refine fb_eq (tgt := 111) hx hb dX0_isHeardSo_95 (by decide) (fun c_23 => ?_) (fun c_23 => ?_)
            · refine lv_iconst (v := 0) hx hb dX0_isHeardSo_111 rfl ?_
              exact fr_z hx hb hr rfl hlocks hX hC () (congrArg (fun z => some (Value.int z)) (b2i_f (by grind))) rfl dX0_isHeardSo_112
            · refine lv_iload_n hx hb dX0_isHeardSo_98 rfl (lv_at hl 1 rfl) ?_
              refine lv_if_eq (tgt := 111) hx hb dX0_isHeardSo_99 (by decide) (fun z_24 => absurd z_24 (by decide)) (fun _ => ?_)
              refine lv_iload hx hb dX0_isHeardSo_102 (lv_at hl 0 rfl) ?_
              refine lv_if_eq (tgt := 111) hx hb dX0_isHeardSo_104 (by decide) (fun z_25 => absurd z_25 (by decide)) (fun _ => ?_)
              refine lv_iconst (v := 1) hx hb dX0_isHeardSo_107 rfl ?_
              refine lv_goto (tgt := 112) hx hb dX0_isHeardSo_108 (by decide) ?_
              exact fr_z hx hb hr rfl hlocks hX hC () (congrArg (fun z => some (Value.int z)) (b2i_t (by grind))) rfl dX0_isHeardSo_112
          · refine lv_aload_n hx hb dX0_isHeardSo_70 rfl (lv_at hl 2 rfl) ?_
            refine fg_get (C := RX0) (T := TX0) (N := 13) (ci := 1) (g := 5) (i := 0) (v := .ref (G.ad 0 0)) hx hb hown hts hX hC in_X0 rfl (cin rfl) rfl 3 (by decide) q425 (fun _ h => h) rfl dX0_isHeardSo_71 ?_
            refine fc_V (As := []) (rest := []) hx hb hml hown hts hX hC (m_X4_hears hw) (lw_V q806 q807 q808 q115 q809) hdV_X4_hears ⟨rfl, rfl⟩ ⟨Nat.le_of_ble_eq_true rfl, Nat.le_of_ble_eq_true rfl⟩ (fx_recv (g := 0) (i := 0) (ci := 0) (q := (RX4, TX4, 9)) hX hC (cin rfl) rfl rfl) hl.1 rfl (Nat.le_of_ble_eq_true rfl) ⟨Nat.zero_le _, Nat.zero_le _⟩ dX0_isHeardSo_74 (fun _ H locs hC => ?_)
            refine W.eq (g2 := F0 m 77 ls [.int (b2i (p_hears d))]) rfl ?_
            refine fb_ne (tgt := 84) hx hb dX0_isHeardSo_77 (by decide) (fun c_27 => ?_) (fun c_27 => ?_)
            · refine lv_iconst (v := 0) hx hb dX0_isHeardSo_84 rfl ?_
              refine lv_goto (tgt := 112) hx hb dX0_isHeardSo_85 (by decide) ?_
              exact fr_z hx hb hr rfl hlocks hX hC () (congrArg (fun z => some (Value.int z)) (b2i_f (by grind))) rfl dX0_isHeardSo_112
            · refine lv_iconst (v := 1) hx hb dX0_isHeardSo_80 rfl ?_
              refine lv_goto (tgt := 112) hx hb dX0_isHeardSo_81 (by decide) ?_
              exact fr_z hx hb hr rfl hlocks hX hC () (congrArg (fun z => some (Value.int z)) (b2i_t (by grind))) rfl dX0_isHeardSo_112
    · refine lv_iload_n hx hb dX0_isHeardSo_17 rfl (lv_at hl 1 rfl) ?_
      refine lv_iconst (v := 3) hx hb dX0_isHeardSo_18 rfl ?_
      refine lv_idiv hx hb dX0_isHeardSo_19 (by decide) ?_
      refine lv_iconst (v := 1) hx hb dX0_isHeardSo_20 rfl ?_
      refine lv_isub hx hb dX0_isHeardSo_21 ?_
      refine lv_aload_n hx hb dX0_isHeardSo_22 rfl (lv_at hl 0 rfl) ?_
      refine fg_get (C := RX0) (T := TX0) (N := 13) (ci := 1) (g := 5) (i := 0) (v := .ref (G.ad 0 0)) hx hb hown hts hX hC in_X0 rfl (cin rfl) rfl 3 (by decide) q425 (fun _ h => h) rfl dX0_isHeardSo_23 ?_
      refine fc_V (As := []) (rest := [.int ((v / 3) - 1)]) hx hb hml hown hts hX hC (m_X4_side) (lw_V q842 q823 q824 q115 q825) hdV_X4_side ⟨rfl, rfl⟩ ⟨Nat.le_of_ble_eq_true rfl, Nat.le_of_ble_eq_true rfl⟩ (fx_recv (g := 0) (i := 0) (ci := 0) (q := (RX4, TX4, 9)) hX hC (cin rfl) rfl rfl) hl.1 rfl (Nat.le_of_ble_eq_true rfl) ⟨Nat.zero_le _, Nat.zero_le _⟩ dX0_isHeardSo_26 (fun _ H locs hC => ?_)
      refine W.eq (g2 := F0 m 29 ls [.int (p_side d), .int ((v / 3) - 1)]) rfl ?_
      refine lv_icmp_ne (tgt := 36) hx hb dX0_isHeardSo_29 (by decide) (fun c_29 => ?_) (fun c_29 => ?_)
      · refine lv_iconst (v := 0) hx hb dX0_isHeardSo_36 rfl ?_
        refine lv_istore_n (lv' := [(3, .int 0), (0, .ref (G.ad 5 0)), (1, .int v), (2, .int ears)]) hx hb dX0_isHeardSo_37 rfl hl (by decide) rfl (fun ls hl => ?_)
        refine lv_iload_n hx hb dX0_isHeardSo_38 rfl (lv_at hl 3 rfl) ?_
        refine lv_iconst (v := 1) hx hb dX0_isHeardSo_39 rfl ?_
        refine lv_icmp_eq (tgt := 58) hx hb dX0_isHeardSo_40 (by decide) (fun c_30 => ?_) (fun c_30 => ?_)
        · refine lv_iconst (v := 1) hx hb dX0_isHeardSo_58 rfl ?_
          refine lv_goto (tgt := 63) hx hb dX0_isHeardSo_59 (by decide) ?_
          refine lv_istore (lv' := [(4, .int 1), (3, .int 0), (0, .ref (G.ad 5 0)), (1, .int v), (2, .int ears)]) hx hb dX0_isHeardSo_63 hl (by decide) rfl (fun ls hl => ?_)
          refine lv_iload_n hx hb dX0_isHeardSo_65 rfl (lv_at hl 3 rfl) ?_
          refine lv_iconst (v := (-1)) hx hb dX0_isHeardSo_66 rfl ?_
          refine lv_icmp_ne (tgt := 88) hx hb dX0_isHeardSo_67 (by decide) (fun c_31 => ?_) (fun c_31 => ?_)
          · refine lv_aload_n hx hb dX0_isHeardSo_88 rfl (lv_at hl 2 rfl) ?_
            refine fg_get (C := RX0) (T := TX0) (N := 13) (ci := 1) (g := 5) (i := 0) (v := .ref (G.ad 0 0)) hx hb hown hts hX hC in_X0 rfl (cin rfl) rfl 3 (by decide) q425 (fun _ h => h) rfl dX0_isHeardSo_89 ?_
            refine fc_V (As := []) (rest := []) hx hb hml hown hts hX hC (m_X4_hears hw) (lw_V q806 q807 q808 q115 q809) hdV_X4_hears ⟨rfl, rfl⟩ ⟨Nat.le_of_ble_eq_true rfl, Nat.le_of_ble_eq_true rfl⟩ (fx_recv (g := 0) (i := 0) (ci := 0) (q := (RX4, TX4, 9)) hX hC (cin rfl) rfl rfl) hl.1 rfl (Nat.le_of_ble_eq_true rfl) ⟨Nat.zero_le _, Nat.zero_le _⟩ dX0_isHeardSo_92 (fun _ H locs hC => ?_)
            refine W.eq (g2 := F0 m 95 ls [.int (b2i (p_hears d))]) rfl ?_
            refine fb_eq (tgt := 111) hx hb dX0_isHeardSo_95 (by decide) (fun c_33 => ?_) (fun c_33 => ?_)
            · refine lv_iconst (v := 0) hx hb dX0_isHeardSo_111 rfl ?_
              exact fr_z hx hb hr rfl hlocks hX hC () (congrArg (fun z => some (Value.int z)) (b2i_f (by grind))) rfl dX0_isHeardSo_112
            · refine lv_iload_n hx hb dX0_isHeardSo_98 rfl (lv_at hl 1 rfl) ?_
              refine lv_if_eq (tgt := 111) hx hb dX0_isHeardSo_99 (by decide) (fun _ => ?_) (fun z_34 => absurd (by decide) z_34)
              refine lv_iconst (v := 0) hx hb dX0_isHeardSo_111 rfl ?_
              exact fr_z hx hb hr rfl hlocks hX hC () (congrArg (fun z => some (Value.int z)) (b2i_f (by grind))) rfl dX0_isHeardSo_112
          · refine lv_aload_n hx hb dX0_isHeardSo_70 rfl (lv_at hl 2 rfl) ?_
            refine fg_get (C := RX0) (T := TX0) (N := 13) (ci := 1) (g := 5) (i := 0) (v := .ref (G.ad 0 0)) hx hb hown hts hX hC in_X0 rfl (cin rfl) rfl 3 (by decide) q425 (fun _ h => h) rfl dX0_isHeardSo_71 ?_
            refine fc_V (As := []) (rest := []) hx hb hml hown hts hX hC (m_X4_hears hw) (lw_V q806 q807 q808 q115 q809) hdV_X4_hears ⟨rfl, rfl⟩ ⟨Nat.le_of_ble_eq_true rfl, Nat.le_of_ble_eq_true rfl⟩ (fx_recv (g := 0) (i := 0) (ci := 0) (q := (RX4, TX4, 9)) hX hC (cin rfl) rfl rfl) hl.1 rfl (Nat.le_of_ble_eq_true rfl) ⟨Nat.zero_le _, Nat.zero_le _⟩ dX0_isHeardSo_74 (fun _ H locs hC => ?_)
            refine W.eq (g2 := F0 m 77 ls [.int (b2i (p_hears d))]) rfl ?_
            refine fb_ne (tgt := 84) hx hb dX0_isHeardSo_77 (by decide) (fun c_36 => ?_) (fun c_36 => ?_)
            · refine lv_iconst (v := 0) hx hb dX0_isHeardSo_84 rfl ?_
              refine lv_goto (tgt := 112) hx hb dX0_isHeardSo_85 (by decide) ?_
              exact fr_z hx hb hr rfl hlocks hX hC () (congrArg (fun z => some (Value.int z)) (b2i_f (by grind))) rfl dX0_isHeardSo_112
            · refine lv_iconst (v := 1) hx hb dX0_isHeardSo_80 rfl ?_
              refine lv_goto (tgt := 112) hx hb dX0_isHeardSo_81 (by decide) ?_
              exact fr_z hx hb hr rfl hlocks hX hC () (congrArg (fun z => some (Value.int z)) (b2i_t (by grind))) rfl dX0_isHeardSo_112
        · refine lv_iload_n hx hb dX0_isHeardSo_43 rfl (lv_at hl 2 rfl) ?_
          refine lv_iconst (v := 3) hx hb dX0_isHeardSo_44 rfl ?_
          refine fw_irem hx hb dX0_isHeardSo_45 (by decide) ?_
          refine lv_iconst (v := 1) hx hb dX0_isHeardSo_46 rfl ?_
          refine lv_isub hx hb dX0_isHeardSo_47 ?_
          refine lv_aload_n hx hb dX0_isHeardSo_48 rfl (lv_at hl 1 rfl) ?_
          refine fg_get (C := RX0) (T := TX0) (N := 13) (ci := 1) (g := 5) (i := 0) (v := .ref (G.ad 0 0)) hx hb hown hts hX hC in_X0 rfl (cin rfl) rfl 3 (by decide) q425 (fun _ h => h) rfl dX0_isHeardSo_49 ?_
          refine fc_V (As := []) (rest := [.int ((rm v 3) - 1)]) hx hb hml hown hts hX hC (m_X4_high) (lw_V q843 q816 q817 q115 q818) hdV_X4_high ⟨rfl, rfl⟩ ⟨Nat.le_of_ble_eq_true rfl, Nat.le_of_ble_eq_true rfl⟩ (fx_recv (g := 0) (i := 0) (ci := 0) (q := (RX4, TX4, 9)) hX hC (cin rfl) rfl rfl) hl.1 rfl (Nat.le_of_ble_eq_true rfl) ⟨Nat.zero_le _, Nat.zero_le _⟩ dX0_isHeardSo_52 (fun _ H locs hC => ?_)
          refine W.eq (g2 := F0 m 55 ls [.int (p_high d), .int ((rm v 3) - 1)]) rfl ?_
          refine lv_icmp_ne (tgt := 62) hx hb dX0_isHeardSo_55 (by decide) (fun c_38 => ?_) (fun c_38 => ?_)
          · refine lv_iconst (v := 0) hx hb dX0_isHeardSo_62 rfl ?_
            refine lv_istore (lv' := [(4, .int 0), (3, .int 0), (0, .ref (G.ad 5 0)), (1, .int v), (2, .int ears)]) hx hb dX0_isHeardSo_63 hl (by decide) rfl (fun ls hl => ?_)
            refine lv_iload_n hx hb dX0_isHeardSo_65 rfl (lv_at hl 3 rfl) ?_
            refine lv_iconst (v := (-1)) hx hb dX0_isHeardSo_66 rfl ?_
            refine lv_icmp_ne (tgt := 88) hx hb dX0_isHeardSo_67 (by decide) (fun c_39 => ?_) (fun c_39 => ?_)
            · refine lv_aload_n hx hb dX0_isHeardSo_88 rfl (lv_at hl 2 rfl) ?_
              refine fg_get (C := RX0) (T := TX0) (N := 13) (ci := 1) (g := 5) (i := 0) (v := .ref (G.ad 0 0)) hx hb hown hts hX hC in_X0 rfl (cin rfl) rfl 3 (by decide) q425 (fun _ h => h) rfl dX0_isHeardSo_89 ?_
              refine fc_V (As := []) (rest := []) hx hb hml hown hts hX hC (m_X4_hears hw) (lw_V q806 q807 q808 q115 q809) hdV_X4_hears ⟨rfl, rfl⟩ ⟨Nat.le_of_ble_eq_true rfl, Nat.le_of_ble_eq_true rfl⟩ (fx_recv (g := 0) (i := 0) (ci := 0) (q := (RX4, TX4, 9)) hX hC (cin rfl) rfl rfl) hl.1 rfl (Nat.le_of_ble_eq_true rfl) ⟨Nat.zero_le _, Nat.zero_le _⟩ dX0_isHeardSo_92 (fun _ H locs hC => ?_)
              refine W.eq (g2 := F0 m 95 ls [.int (b2i (p_hears d))]) rfl ?_
              refine fb_eq (tgt := 111) hx hb dX0_isHeardSo_95 (by decide) (fun c_41 => ?_) (fun c_41 => ?_)
              · refine lv_iconst (v := 0) hx hb dX0_isHeardSo_111 rfl ?_
                exact fr_z hx hb hr rfl hlocks hX hC () (congrArg (fun z => some (Value.int z)) (b2i_f (by grind))) rfl dX0_isHeardSo_112
              · refine lv_iload_n hx hb dX0_isHeardSo_98 rfl (lv_at hl 1 rfl) ?_
                refine lv_if_eq (tgt := 111) hx hb dX0_isHeardSo_99 (by decide) (fun _ => ?_) (fun z_42 => absurd (by decide) z_42)
                refine lv_iconst (v := 0) hx hb dX0_isHeardSo_111 rfl ?_
                exact fr_z hx hb hr rfl hlocks hX hC () (congrArg (fun z => some (Value.int z)) (b2i_f (by grind))) rfl dX0_isHeardSo_112
            · refine lv_aload_n hx hb dX0_isHeardSo_70 rfl (lv_at hl 2 rfl) ?_
              refine fg_get (C := RX0) (T := TX0) (N := 13) (ci := 1) (g := 5) (i := 0) (v := .ref (G.ad 0 0)) hx hb hown hts hX hC in_X0 rfl (cin rfl) rfl 3 (by decide) q425 (fun _ h => h) rfl dX0_isHeardSo_71 ?_
              refine fc_V (As := []) (rest := []) hx hb hml hown hts hX hC (m_X4_hears hw) (lw_V q806 q807 q808 q115 q809) hdV_X4_hears ⟨rfl, rfl⟩ ⟨Nat.le_of_ble_eq_true rfl, Nat.le_of_ble_eq_true rfl⟩ (fx_recv (g := 0) (i := 0) (ci := 0) (q := (RX4, TX4, 9)) hX hC (cin rfl) rfl rfl) hl.1 rfl (Nat.le_of_ble_eq_true rfl) ⟨Nat.zero_le _, Nat.zero_le _⟩ dX0_isHeardSo_74 (fun _ H locs hC => ?_)
              refine W.eq (g2 := F0 m 77 ls [.int (b2i (p_hears d))]) rfl ?_
              refine fb_ne (tgt := 84) hx hb dX0_isHeardSo_77 (by decide) (fun c_44 => ?_) (fun c_44 => ?_)
              · refine lv_iconst (v := 0) hx hb dX0_isHeardSo_84 rfl ?_
                refine lv_goto (tgt := 112) hx hb dX0_isHeardSo_85 (by decide) ?_
                exact fr_z hx hb hr rfl hlocks hX hC () (congrArg (fun z => some (Value.int z)) (b2i_f (by grind))) rfl dX0_isHeardSo_112
              · refine lv_iconst (v := 1) hx hb dX0_isHeardSo_80 rfl ?_
                refine lv_goto (tgt := 112) hx hb dX0_isHeardSo_81 (by decide) ?_
                exact fr_z hx hb hr rfl hlocks hX hC () (congrArg (fun z => some (Value.int z)) (b2i_t (by grind))) rfl dX0_isHeardSo_112
          · refine lv_iconst (v := 1) hx hb dX0_isHeardSo_58 rfl ?_
            refine lv_goto (tgt := 63) hx hb dX0_isHeardSo_59 (by decide) ?_
            refine lv_istore (lv' := [(4, .int 1), (3, .int 0), (0, .ref (G.ad 5 0)), (1, .int v), (2, .int ears)]) hx hb dX0_isHeardSo_63 hl (by decide) rfl (fun ls hl => ?_)
            refine lv_iload_n hx hb dX0_isHeardSo_65 rfl (lv_at hl 3 rfl) ?_
            refine lv_iconst (v := (-1)) hx hb dX0_isHeardSo_66 rfl ?_
            refine lv_icmp_ne (tgt := 88) hx hb dX0_isHeardSo_67 (by decide) (fun c_45 => ?_) (fun c_45 => ?_)
            · refine lv_aload_n hx hb dX0_isHeardSo_88 rfl (lv_at hl 2 rfl) ?_
              refine fg_get (C := RX0) (T := TX0) (N := 13) (ci := 1) (g := 5) (i := 0) (v := .ref (G.ad 0 0)) hx hb hown hts hX hC in_X0 rfl (cin rfl) rfl 3 (by decide) q425 (fun _ h => h) rfl dX0_isHeardSo_89 ?_
              refine fc_V (As := []) (rest := []) hx hb hml hown hts hX hC (m_X4_hears hw) (lw_V q806 q807 q808 q115 q809) hdV_X4_hears ⟨rfl, rfl⟩ ⟨Nat.le_of_ble_eq_true rfl, Nat.le_of_ble_eq_true rfl⟩ (fx_recv (g := 0) (i := 0) (ci := 0) (q := (RX4, TX4, 9)) hX hC (cin rfl) rfl rfl) hl.1 rfl (Nat.le_of_ble_eq_true rfl) ⟨Nat.zero_le _, Nat.zero_le _⟩ dX0_isHeardSo_92 (fun _ H locs hC => ?_)
              refine W.eq (g2 := F0 m 95 ls [.int (b2i (p_hears d))]) rfl ?_
              refine fb_eq (tgt := 111) hx hb dX0_isHeardSo_95 (by decide) (fun c_47 => ?_) (fun c_47 => ?_)
              · refine lv_iconst (v := 0) hx hb dX0_isHeardSo_111 rfl ?_
                exact fr_z hx hb hr rfl hlocks hX hC () (congrArg (fun z => some (Value.int z)) (b2i_f (by grind))) rfl dX0_isHeardSo_112
              · refine lv_iload_n hx hb dX0_isHeardSo_98 rfl (lv_at hl 1 rfl) ?_
                refine lv_if_eq (tgt := 111) hx hb dX0_isHeardSo_99 (by decide) (fun _ => ?_) (fun z_48 => absurd (by decide) z_48)
                refine lv_iconst (v := 0) hx hb dX0_isHeardSo_111 rfl ?_
                exact fr_z hx hb hr rfl hlocks hX hC () (congrArg (fun z => some (Value.int z)) (b2i_f (by grind))) rfl dX0_isHeardSo_112
            · refine lv_aload_n hx hb dX0_isHeardSo_70 rfl (lv_at hl 2 rfl) ?_
              refine fg_get (C := RX0) (T := TX0) (N := 13) (ci := 1) (g := 5) (i := 0) (v := .ref (G.ad 0 0)) hx hb hown hts hX hC in_X0 rfl (cin rfl) rfl 3 (by decide) q425 (fun _ h => h) rfl dX0_isHeardSo_71 ?_
              refine fc_V (As := []) (rest := []) hx hb hml hown hts hX hC (m_X4_hears hw) (lw_V q806 q807 q808 q115 q809) hdV_X4_hears ⟨rfl, rfl⟩ ⟨Nat.le_of_ble_eq_true rfl, Nat.le_of_ble_eq_true rfl⟩ (fx_recv (g := 0) (i := 0) (ci := 0) (q := (RX4, TX4, 9)) hX hC (cin rfl) rfl rfl) hl.1 rfl (Nat.le_of_ble_eq_true rfl) ⟨Nat.zero_le _, Nat.zero_le _⟩ dX0_isHeardSo_74 (fun _ H locs hC => ?_)
              refine W.eq (g2 := F0 m 77 ls [.int (b2i (p_hears d))]) rfl ?_
              refine fb_ne (tgt := 84) hx hb dX0_isHeardSo_77 (by decide) (fun c_50 => ?_) (fun c_50 => ?_)
              · refine lv_iconst (v := 0) hx hb dX0_isHeardSo_84 rfl ?_
                refine lv_goto (tgt := 112) hx hb dX0_isHeardSo_85 (by decide) ?_
                exact fr_z hx hb hr rfl hlocks hX hC () (congrArg (fun z => some (Value.int z)) (b2i_f (by grind))) rfl dX0_isHeardSo_112
              · refine lv_iconst (v := 1) hx hb dX0_isHeardSo_80 rfl ?_
                refine lv_goto (tgt := 112) hx hb dX0_isHeardSo_81 (by decide) ?_
                exact fr_z hx hb hr rfl hlocks hX hC () (congrArg (fun z => some (Value.int z)) (b2i_t (by grind))) rfl dX0_isHeardSo_112
      · refine lv_iconst (v := 1) hx hb dX0_isHeardSo_32 rfl ?_
        refine lv_goto (tgt := 37) hx hb dX0_isHeardSo_33 (by decide) ?_
        refine lv_istore_n (lv' := [(3, .int 1), (0, .ref (G.ad 5 0)), (1, .int v), (2, .int ears)]) hx hb dX0_isHeardSo_37 rfl hl (by decide) rfl (fun ls hl => ?_)
        refine lv_iload_n hx hb dX0_isHeardSo_38 rfl (lv_at hl 3 rfl) ?_
        refine lv_iconst (v := 1) hx hb dX0_isHeardSo_39 rfl ?_
        refine lv_icmp_eq (tgt := 58) hx hb dX0_isHeardSo_40 (by decide) (fun c_51 => ?_) (fun c_51 => ?_)
        · refine lv_iconst (v := 1) hx hb dX0_isHeardSo_58 rfl ?_
          refine lv_goto (tgt := 63) hx hb dX0_isHeardSo_59 (by decide) ?_
          refine lv_istore (lv' := [(4, .int 1), (3, .int 1), (0, .ref (G.ad 5 0)), (1, .int v), (2, .int ears)]) hx hb dX0_isHeardSo_63 hl (by decide) rfl (fun ls hl => ?_)
          refine lv_iload_n hx hb dX0_isHeardSo_65 rfl (lv_at hl 3 rfl) ?_
          refine lv_iconst (v := (-1)) hx hb dX0_isHeardSo_66 rfl ?_
          refine lv_icmp_ne (tgt := 88) hx hb dX0_isHeardSo_67 (by decide) (fun c_52 => ?_) (fun c_52 => ?_)
          · refine lv_aload_n hx hb dX0_isHeardSo_88 rfl (lv_at hl 2 rfl) ?_
            refine fg_get (C := RX0) (T := TX0) (N := 13) (ci := 1) (g := 5) (i := 0) (v := .ref (G.ad 0 0)) hx hb hown hts hX hC in_X0 rfl (cin rfl) rfl 3 (by decide) q425 (fun _ h => h) rfl dX0_isHeardSo_89 ?_
            refine fc_V (As := []) (rest := []) hx hb hml hown hts hX hC (m_X4_hears hw) (lw_V q806 q807 q808 q115 q809) hdV_X4_hears ⟨rfl, rfl⟩ ⟨Nat.le_of_ble_eq_true rfl, Nat.le_of_ble_eq_true rfl⟩ (fx_recv (g := 0) (i := 0) (ci := 0) (q := (RX4, TX4, 9)) hX hC (cin rfl) rfl rfl) hl.1 rfl (Nat.le_of_ble_eq_true rfl) ⟨Nat.zero_le _, Nat.zero_le _⟩ dX0_isHeardSo_92 (fun _ H locs hC => ?_)
            refine W.eq (g2 := F0 m 95 ls [.int (b2i (p_hears d))]) rfl ?_
            refine fb_eq (tgt := 111) hx hb dX0_isHeardSo_95 (by decide) (fun c_54 => ?_) (fun c_54 => ?_)
            · refine lv_iconst (v := 0) hx hb dX0_isHeardSo_111 rfl ?_
              exact fr_z hx hb hr rfl hlocks hX hC () (congrArg (fun z => some (Value.int z)) (b2i_f (by grind))) rfl dX0_isHeardSo_112
            · refine lv_iload_n hx hb dX0_isHeardSo_98 rfl (lv_at hl 1 rfl) ?_
              refine lv_if_eq (tgt := 111) hx hb dX0_isHeardSo_99 (by decide) (fun z_55 => absurd z_55 (by decide)) (fun _ => ?_)
              refine lv_iload hx hb dX0_isHeardSo_102 (lv_at hl 0 rfl) ?_
              refine lv_if_eq (tgt := 111) hx hb dX0_isHeardSo_104 (by decide) (fun z_56 => absurd z_56 (by decide)) (fun _ => ?_)
              refine lv_iconst (v := 1) hx hb dX0_isHeardSo_107 rfl ?_
              refine lv_goto (tgt := 112) hx hb dX0_isHeardSo_108 (by decide) ?_
              exact fr_z hx hb hr rfl hlocks hX hC () (congrArg (fun z => some (Value.int z)) (b2i_t (by grind))) rfl dX0_isHeardSo_112
          · refine lv_aload_n hx hb dX0_isHeardSo_70 rfl (lv_at hl 2 rfl) ?_
            refine fg_get (C := RX0) (T := TX0) (N := 13) (ci := 1) (g := 5) (i := 0) (v := .ref (G.ad 0 0)) hx hb hown hts hX hC in_X0 rfl (cin rfl) rfl 3 (by decide) q425 (fun _ h => h) rfl dX0_isHeardSo_71 ?_
            refine fc_V (As := []) (rest := []) hx hb hml hown hts hX hC (m_X4_hears hw) (lw_V q806 q807 q808 q115 q809) hdV_X4_hears ⟨rfl, rfl⟩ ⟨Nat.le_of_ble_eq_true rfl, Nat.le_of_ble_eq_true rfl⟩ (fx_recv (g := 0) (i := 0) (ci := 0) (q := (RX4, TX4, 9)) hX hC (cin rfl) rfl rfl) hl.1 rfl (Nat.le_of_ble_eq_true rfl) ⟨Nat.zero_le _, Nat.zero_le _⟩ dX0_isHeardSo_74 (fun _ H locs hC => ?_)
            refine W.eq (g2 := F0 m 77 ls [.int (b2i (p_hears d))]) rfl ?_
            refine fb_ne (tgt := 84) hx hb dX0_isHeardSo_77 (by decide) (fun c_58 => ?_) (fun c_58 => ?_)
            · refine lv_iconst (v := 0) hx hb dX0_isHeardSo_84 rfl ?_
              refine lv_goto (tgt := 112) hx hb dX0_isHeardSo_85 (by decide) ?_
              exact fr_z hx hb hr rfl hlocks hX hC () (congrArg (fun z => some (Value.int z)) (b2i_f (by grind))) rfl dX0_isHeardSo_112
            · refine lv_iconst (v := 1) hx hb dX0_isHeardSo_80 rfl ?_
              refine lv_goto (tgt := 112) hx hb dX0_isHeardSo_81 (by decide) ?_
              exact fr_z hx hb hr rfl hlocks hX hC () (congrArg (fun z => some (Value.int z)) (b2i_t (by grind))) rfl dX0_isHeardSo_112
        · refine lv_iload_n hx hb dX0_isHeardSo_43 rfl (lv_at hl 2 rfl) ?_
          refine lv_iconst (v := 3) hx hb dX0_isHeardSo_44 rfl ?_
          refine fw_irem hx hb dX0_isHeardSo_45 (by decide) ?_
          refine lv_iconst (v := 1) hx hb dX0_isHeardSo_46 rfl ?_
          refine lv_isub hx hb dX0_isHeardSo_47 ?_
          refine lv_aload_n hx hb dX0_isHeardSo_48 rfl (lv_at hl 1 rfl) ?_
          refine fg_get (C := RX0) (T := TX0) (N := 13) (ci := 1) (g := 5) (i := 0) (v := .ref (G.ad 0 0)) hx hb hown hts hX hC in_X0 rfl (cin rfl) rfl 3 (by decide) q425 (fun _ h => h) rfl dX0_isHeardSo_49 ?_
          refine fc_V (As := []) (rest := [.int ((rm v 3) - 1)]) hx hb hml hown hts hX hC (m_X4_high) (lw_V q843 q816 q817 q115 q818) hdV_X4_high ⟨rfl, rfl⟩ ⟨Nat.le_of_ble_eq_true rfl, Nat.le_of_ble_eq_true rfl⟩ (fx_recv (g := 0) (i := 0) (ci := 0) (q := (RX4, TX4, 9)) hX hC (cin rfl) rfl rfl) hl.1 rfl (Nat.le_of_ble_eq_true rfl) ⟨Nat.zero_le _, Nat.zero_le _⟩ dX0_isHeardSo_52 (fun _ H locs hC => ?_)
          refine W.eq (g2 := F0 m 55 ls [.int (p_high d), .int ((rm v 3) - 1)]) rfl ?_
          refine lv_icmp_ne (tgt := 62) hx hb dX0_isHeardSo_55 (by decide) (fun c_60 => ?_) (fun c_60 => ?_)
          · refine lv_iconst (v := 0) hx hb dX0_isHeardSo_62 rfl ?_
            refine lv_istore (lv' := [(4, .int 0), (3, .int 1), (0, .ref (G.ad 5 0)), (1, .int v), (2, .int ears)]) hx hb dX0_isHeardSo_63 hl (by decide) rfl (fun ls hl => ?_)
            refine lv_iload_n hx hb dX0_isHeardSo_65 rfl (lv_at hl 3 rfl) ?_
            refine lv_iconst (v := (-1)) hx hb dX0_isHeardSo_66 rfl ?_
            refine lv_icmp_ne (tgt := 88) hx hb dX0_isHeardSo_67 (by decide) (fun c_61 => ?_) (fun c_61 => ?_)
            · refine lv_aload_n hx hb dX0_isHeardSo_88 rfl (lv_at hl 2 rfl) ?_
              refine fg_get (C := RX0) (T := TX0) (N := 13) (ci := 1) (g := 5) (i := 0) (v := .ref (G.ad 0 0)) hx hb hown hts hX hC in_X0 rfl (cin rfl) rfl 3 (by decide) q425 (fun _ h => h) rfl dX0_isHeardSo_89 ?_
              refine fc_V (As := []) (rest := []) hx hb hml hown hts hX hC (m_X4_hears hw) (lw_V q806 q807 q808 q115 q809) hdV_X4_hears ⟨rfl, rfl⟩ ⟨Nat.le_of_ble_eq_true rfl, Nat.le_of_ble_eq_true rfl⟩ (fx_recv (g := 0) (i := 0) (ci := 0) (q := (RX4, TX4, 9)) hX hC (cin rfl) rfl rfl) hl.1 rfl (Nat.le_of_ble_eq_true rfl) ⟨Nat.zero_le _, Nat.zero_le _⟩ dX0_isHeardSo_92 (fun _ H locs hC => ?_)
              refine W.eq (g2 := F0 m 95 ls [.int (b2i (p_hears d))]) rfl ?_
              refine fb_eq (tgt := 111) hx hb dX0_isHeardSo_95 (by decide) (fun c_63 => ?_) (fun c_63 => ?_)
              · refine lv_iconst (v := 0) hx hb dX0_isHeardSo_111 rfl ?_
                exact fr_z hx hb hr rfl hlocks hX hC () (congrArg (fun z => some (Value.int z)) (b2i_f (by grind))) rfl dX0_isHeardSo_112
              · refine lv_iload_n hx hb dX0_isHeardSo_98 rfl (lv_at hl 1 rfl) ?_
                refine lv_if_eq (tgt := 111) hx hb dX0_isHeardSo_99 (by decide) (fun z_64 => absurd z_64 (by decide)) (fun _ => ?_)
                refine lv_iload hx hb dX0_isHeardSo_102 (lv_at hl 0 rfl) ?_
                refine lv_if_eq (tgt := 111) hx hb dX0_isHeardSo_104 (by decide) (fun _ => ?_) (fun z_65 => absurd (by decide) z_65)
                refine lv_iconst (v := 0) hx hb dX0_isHeardSo_111 rfl ?_
                exact fr_z hx hb hr rfl hlocks hX hC () (congrArg (fun z => some (Value.int z)) (b2i_f (by grind))) rfl dX0_isHeardSo_112
            · refine lv_aload_n hx hb dX0_isHeardSo_70 rfl (lv_at hl 2 rfl) ?_
              refine fg_get (C := RX0) (T := TX0) (N := 13) (ci := 1) (g := 5) (i := 0) (v := .ref (G.ad 0 0)) hx hb hown hts hX hC in_X0 rfl (cin rfl) rfl 3 (by decide) q425 (fun _ h => h) rfl dX0_isHeardSo_71 ?_
              refine fc_V (As := []) (rest := []) hx hb hml hown hts hX hC (m_X4_hears hw) (lw_V q806 q807 q808 q115 q809) hdV_X4_hears ⟨rfl, rfl⟩ ⟨Nat.le_of_ble_eq_true rfl, Nat.le_of_ble_eq_true rfl⟩ (fx_recv (g := 0) (i := 0) (ci := 0) (q := (RX4, TX4, 9)) hX hC (cin rfl) rfl rfl) hl.1 rfl (Nat.le_of_ble_eq_true rfl) ⟨Nat.zero_le _, Nat.zero_le _⟩ dX0_isHeardSo_74 (fun _ H locs hC => ?_)
              refine W.eq (g2 := F0 m 77 ls [.int (b2i (p_hears d))]) rfl ?_
              refine fb_ne (tgt := 84) hx hb dX0_isHeardSo_77 (by decide) (fun c_67 => ?_) (fun c_67 => ?_)
              · refine lv_iconst (v := 0) hx hb dX0_isHeardSo_84 rfl ?_
                refine lv_goto (tgt := 112) hx hb dX0_isHeardSo_85 (by decide) ?_
                exact fr_z hx hb hr rfl hlocks hX hC () (congrArg (fun z => some (Value.int z)) (b2i_f (by grind))) rfl dX0_isHeardSo_112
              · refine lv_iconst (v := 1) hx hb dX0_isHeardSo_80 rfl ?_
                refine lv_goto (tgt := 112) hx hb dX0_isHeardSo_81 (by decide) ?_
                exact fr_z hx hb hr rfl hlocks hX hC () (congrArg (fun z => some (Value.int z)) (b2i_t (by grind))) rfl dX0_isHeardSo_112
          · refine lv_iconst (v := 1) hx hb dX0_isHeardSo_58 rfl ?_
            refine lv_goto (tgt := 63) hx hb dX0_isHeardSo_59 (by decide) ?_
            refine lv_istore (lv' := [(4, .int 1), (3, .int 1), (0, .ref (G.ad 5 0)), (1, .int v), (2, .int ears)]) hx hb dX0_isHeardSo_63 hl (by decide) rfl (fun ls hl => ?_)
            refine lv_iload_n hx hb dX0_isHeardSo_65 rfl (lv_at hl 3 rfl) ?_
            refine lv_iconst (v := (-1)) hx hb dX0_isHeardSo_66 rfl ?_
            refine lv_icmp_ne (tgt := 88) hx hb dX0_isHeardSo_67 (by decide) (fun c_68 => ?_) (fun c_68 => ?_)
            · refine lv_aload_n hx hb dX0_isHeardSo_88 rfl (lv_at hl 2 rfl) ?_
              refine fg_get (C := RX0) (T := TX0) (N := 13) (ci := 1) (g := 5) (i := 0) (v := .ref (G.ad 0 0)) hx hb hown hts hX hC in_X0 rfl (cin rfl) rfl 3 (by decide) q425 (fun _ h => h) rfl dX0_isHeardSo_89 ?_
              refine fc_V (As := []) (rest := []) hx hb hml hown hts hX hC (m_X4_hears hw) (lw_V q806 q807 q808 q115 q809) hdV_X4_hears ⟨rfl, rfl⟩ ⟨Nat.le_of_ble_eq_true rfl, Nat.le_of_ble_eq_true rfl⟩ (fx_recv (g := 0) (i := 0) (ci := 0) (q := (RX4, TX4, 9)) hX hC (cin rfl) rfl rfl) hl.1 rfl (Nat.le_of_ble_eq_true rfl) ⟨Nat.zero_le _, Nat.zero_le _⟩ dX0_isHeardSo_92 (fun _ H locs hC => ?_)
              refine W.eq (g2 := F0 m 95 ls [.int (b2i (p_hears d))]) rfl ?_
              refine fb_eq (tgt := 111) hx hb dX0_isHeardSo_95 (by decide) (fun c_70 => ?_) (fun c_70 => ?_)
              · refine lv_iconst (v := 0) hx hb dX0_isHeardSo_111 rfl ?_
                exact fr_z hx hb hr rfl hlocks hX hC () (congrArg (fun z => some (Value.int z)) (b2i_f (by grind))) rfl dX0_isHeardSo_112
              · refine lv_iload_n hx hb dX0_isHeardSo_98 rfl (lv_at hl 1 rfl) ?_
                refine lv_if_eq (tgt := 111) hx hb dX0_isHeardSo_99 (by decide) (fun z_71 => absurd z_71 (by decide)) (fun _ => ?_)
                refine lv_iload hx hb dX0_isHeardSo_102 (lv_at hl 0 rfl) ?_
                refine lv_if_eq (tgt := 111) hx hb dX0_isHeardSo_104 (by decide) (fun z_72 => absurd z_72 (by decide)) (fun _ => ?_)
                refine lv_iconst (v := 1) hx hb dX0_isHeardSo_107 rfl ?_
                refine lv_goto (tgt := 112) hx hb dX0_isHeardSo_108 (by decide) ?_
                exact fr_z hx hb hr rfl hlocks hX hC () (congrArg (fun z => some (Value.int z)) (b2i_t (by grind))) rfl dX0_isHeardSo_112
            · refine lv_aload_n hx hb dX0_isHeardSo_70 rfl (lv_at hl 2 rfl) ?_
              refine fg_get (C := RX0) (T := TX0) (N := 13) (ci := 1) (g := 5) (i := 0) (v := .ref (G.ad 0 0)) hx hb hown hts hX hC in_X0 rfl (cin rfl) rfl 3 (by decide) q425 (fun _ h => h) rfl dX0_isHeardSo_71 ?_
              refine fc_V (As := []) (rest := []) hx hb hml hown hts hX hC (m_X4_hears hw) (lw_V q806 q807 q808 q115 q809) hdV_X4_hears ⟨rfl, rfl⟩ ⟨Nat.le_of_ble_eq_true rfl, Nat.le_of_ble_eq_true rfl⟩ (fx_recv (g := 0) (i := 0) (ci := 0) (q := (RX4, TX4, 9)) hX hC (cin rfl) rfl rfl) hl.1 rfl (Nat.le_of_ble_eq_true rfl) ⟨Nat.zero_le _, Nat.zero_le _⟩ dX0_isHeardSo_74 (fun _ H locs hC => ?_)
              refine W.eq (g2 := F0 m 77 ls [.int (b2i (p_hears d))]) rfl ?_
              refine fb_ne (tgt := 84) hx hb dX0_isHeardSo_77 (by decide) (fun c_74 => ?_) (fun c_74 => ?_)
              · refine lv_iconst (v := 0) hx hb dX0_isHeardSo_84 rfl ?_
                refine lv_goto (tgt := 112) hx hb dX0_isHeardSo_85 (by decide) ?_
                exact fr_z hx hb hr rfl hlocks hX hC () (congrArg (fun z => some (Value.int z)) (b2i_f (by grind))) rfl dX0_isHeardSo_112
              · refine lv_iconst (v := 1) hx hb dX0_isHeardSo_80 rfl ?_
                refine lv_goto (tgt := 112) hx hb dX0_isHeardSo_81 (by decide) ?_
                exact fr_z hx hb hr rfl hlocks hX hC () (congrArg (fun z => some (Value.int z)) (b2i_t (by grind))) rfl dX0_isHeardSo_112
  · refine lv_iconst (v := 1) hx hb dX0_isHeardSo_10 rfl ?_
    exact fr_z hx hb hr rfl hlocks hX hC () (congrArg (fun z => some (Value.int z)) (b2i_t (by grind))) rfl dX0_isHeardSo_11
set_option maxRecDepth 100000 in
theorem m_X0_of {l : Launch} {G : Gc} {d kp as un to sc fd tp sh : Row} {sp : Nat → Option Nat} (hw : WF d) (k what : Int32) : Cm l yX0_of (ws_ yX0_of cX0_of 3 (some .int)) ({ frames := 10, cells := 0, slots := 0, locals := 346 }) (cF G) [.ref (G.ad 5 0), .int k, .int what] (cct G (pg d kp as un to sc fd tp sh) sp) (fun u : Row => some (.int ((s_of d fd k what).1))) (fun u => cct G (pg d kp u un to sc ((s_of d fd k what).2) tp sh) sp) := by
  refine Cm.start (by decide) (Nat.le_of_ble_eq_true rfl) ?_
  intro p e s m below meth c hf hX hC ls hl
  obtain ⟨hx, hb, hr, hml, hown, hts, hlocks⟩ := hf
  have hl : lv_has ls 3 [(0, .ref (G.ad 5 0)), (1, .int k), (2, .int what)] := hl
  have hown : s.vm.findClass "OwlEars" = some m.cls := hown
  refine lv_aload_n hx hb dX0_of_0 rfl (lv_at hl 0 rfl) ?_
  refine lv_iload_n hx hb dX0_of_1 rfl (lv_at hl 1 rfl) ?_
  refine fc_V (As := [.int k]) (rest := []) hx hb hml hown hts hX hC (m_X0_isStrike k) (lw_V q538 q540 qs4 q108 q541) hdV_X0_isStrike ⟨rfl, rfl⟩ ⟨Nat.le_of_ble_eq_true rfl, Nat.le_of_ble_eq_true rfl⟩ (fx_recv (g := 5) (i := 0) (ci := 1) (q := (RX0, TX0, 13)) hX hC (cin rfl) rfl rfl) hl.1 rfl (Nat.le_of_ble_eq_true rfl) ⟨Nat.zero_le _, Nat.zero_le _⟩ dX0_of_2 (fun _ H locs hC => ?_)
  refine W.eq (g2 := F0 m 5 ls [.int (b2i (p_in k 0 (d 1 - 1)))]) rfl ?_
  refine fb_ne (tgt := 14) hx hb dX0_of_5 (by decide) (fun c_2 => ?_) (fun c_2 => ?_)
  · have hk : vp_in k 8 := kin_of hw c_2
    refine lv_iload_n hx hb dX0_of_14 rfl (lv_at hl 2 rfl) ?_
    by_cases c_3 : what = 0
    · refine lv_tableIn (off := 45) (tgt := 60) hx hb dX0_of_15 (by rw [c_3]; decide) (by rw [c_3]; decide) (by rw [c_3]; rfl) (by decide) ?_
      rcases kind7' (hw.kind (ix k) (vin_lt hk)) with qk | qk | qk | qk | qk | qk | qk
      · refine lv_aload_n hx hb dX0_of_60 rfl (lv_at hl 0 rfl) ?_
        refine lv_iload_n hx hb dX0_of_61 rfl (lv_at hl 1 rfl) ?_
        refine fc_V (As := [.int k]) (rest := []) hx hb hml hown hts hX hC (m_X0_strikeOf_0 k hk qk) (lw_V q542 q544 qs5 q108 q545) hdV_X0_strikeOf ⟨rfl, rfl⟩ ⟨Nat.le_of_ble_eq_true rfl, Nat.le_of_ble_eq_true rfl⟩ (fx_recv (g := 5) (i := 0) (ci := 1) (q := (RX0, TX0, 13)) hX hC (cin rfl) rfl rfl) hl.1 rfl (Nat.le_of_ble_eq_true rfl) ⟨Nat.zero_le _, Nat.zero_le _⟩ dX0_of_62 (fun _ H locs hC => ?_)
        refine W.eq (g2 := F0 m 65 ls [.ref (G.ad 20 (ix k))]) rfl ?_
        refine fc_V (As := []) (rest := []) hx hb hml hown hts hX hC (m_X6_kind_0 (ix k) (vin_lt hk)) (lw_V q546 q547 q548 q117 q574) hdV_X6_kind ⟨rfl, rfl⟩ ⟨Nat.le_of_ble_eq_true rfl, Nat.le_of_ble_eq_true rfl⟩ (fx_recv (g := 20) (i := (ix k)) (ci := 6) (q := (RX6, TX6, 2)) hX hC (cin (decide_eq_true (vin_lt hk))) rfl rfl) hl.1 rfl (Nat.le_of_ble_eq_true rfl) ⟨Nat.zero_le _, Nat.zero_le _⟩ dX0_of_65 (fun _ H locs hC => ?_)
        refine W.eq (g2 := F0 m 68 ls [.int 0]) rfl ?_
        have hs : s_of d fd k what = ((0, fd) : Int32 × Row) := by simp [s_of, p_deep, p_wide, qk, c_2, c_3]
        exact fr_i hx hb hr hlocks hX hC as (congrArg (fun z => some (Value.int z)) (t2_1 hs)) (congrArg (fun z => cct G (pg d kp as un to sc z tp sh) sp) (t2_2 hs)).symm dX0_of_68
      · refine lv_aload_n hx hb dX0_of_60 rfl (lv_at hl 0 rfl) ?_
        refine lv_iload_n hx hb dX0_of_61 rfl (lv_at hl 1 rfl) ?_
        refine fc_V (As := [.int k]) (rest := []) hx hb hml hown hts hX hC (m_X0_strikeOf_1 k hk qk) (lw_V q542 q544 qs5 q108 q545) hdV_X0_strikeOf ⟨rfl, rfl⟩ ⟨Nat.le_of_ble_eq_true rfl, Nat.le_of_ble_eq_true rfl⟩ (fx_recv (g := 5) (i := 0) (ci := 1) (q := (RX0, TX0, 13)) hX hC (cin rfl) rfl rfl) hl.1 rfl (Nat.le_of_ble_eq_true rfl) ⟨Nat.zero_le _, Nat.zero_le _⟩ dX0_of_62 (fun _ H locs hC => ?_)
        refine W.eq (g2 := F0 m 65 ls [.ref (G.ad 21 (ix k))]) rfl ?_
        refine fc_O (C := RX7) (owner := "OwlEars$Strike") (x := ⟨"OwlEars$Strike", "kind", "()I"⟩) (As := []) (rest := []) hx hb hml hown hts hX hC (m_X7_kind_1 (ix k) (vin_lt hk)) (lw6 q546 q549 q547 q569 q558 q118) q559 q574 (by refine ⟨by decide, by decide, ?_⟩; show _ = some 0; decide +kernel) ⟨rfl, rfl⟩ ⟨Nat.le_of_ble_eq_true rfl, Nat.le_of_ble_eq_true rfl⟩ (fx_recv (g := 21) (i := (ix k)) (ci := 7) (q := (RX7, TX7, 3)) hX hC (cin (decide_eq_true (vin_lt hk))) rfl rfl) hl.1 rfl (Nat.le_of_ble_eq_true rfl) ⟨Nat.zero_le _, Nat.zero_le _⟩ dX0_of_65 (fun _ H locs hC => ?_)
        refine W.eq (g2 := F0 m 68 ls [.int 1]) rfl ?_
        have hs : s_of d fd k what = ((1, fd) : Int32 × Row) := by simp [s_of, p_deep, p_wide, qk, c_2, c_3]
        exact fr_i hx hb hr hlocks hX hC as (congrArg (fun z => some (Value.int z)) (t2_1 hs)) (congrArg (fun z => cct G (pg d kp as un to sc z tp sh) sp) (t2_2 hs)).symm dX0_of_68
      · refine lv_aload_n hx hb dX0_of_60 rfl (lv_at hl 0 rfl) ?_
        refine lv_iload_n hx hb dX0_of_61 rfl (lv_at hl 1 rfl) ?_
        refine fc_V (As := [.int k]) (rest := []) hx hb hml hown hts hX hC (m_X0_strikeOf_2 k hk qk) (lw_V q542 q544 qs5 q108 q545) hdV_X0_strikeOf ⟨rfl, rfl⟩ ⟨Nat.le_of_ble_eq_true rfl, Nat.le_of_ble_eq_true rfl⟩ (fx_recv (g := 5) (i := 0) (ci := 1) (q := (RX0, TX0, 13)) hX hC (cin rfl) rfl rfl) hl.1 rfl (Nat.le_of_ble_eq_true rfl) ⟨Nat.zero_le _, Nat.zero_le _⟩ dX0_of_62 (fun _ H locs hC => ?_)
        refine W.eq (g2 := F0 m 65 ls [.ref (G.ad 22 (ix k))]) rfl ?_
        refine fc_O (C := RX8) (owner := "OwlEars$Strike") (x := ⟨"OwlEars$Strike", "kind", "()I"⟩) (As := []) (rest := []) hx hb hml hown hts hX hC (m_X8_kind_2 (ix k) (vin_lt hk)) (lw6 q546 q549 q547 q550 q551 q119) q552 q574 (by refine ⟨by decide, by decide, ?_⟩; show _ = some 0; decide +kernel) ⟨rfl, rfl⟩ ⟨Nat.le_of_ble_eq_true rfl, Nat.le_of_ble_eq_true rfl⟩ (fx_recv (g := 22) (i := (ix k)) (ci := 8) (q := (RX8, TX8, 3)) hX hC (cin (decide_eq_true (vin_lt hk))) rfl rfl) hl.1 rfl (Nat.le_of_ble_eq_true rfl) ⟨Nat.zero_le _, Nat.zero_le _⟩ dX0_of_65 (fun _ H locs hC => ?_)
        refine W.eq (g2 := F0 m 68 ls [.int 2]) rfl ?_
        have hs : s_of d fd k what = ((2, fd) : Int32 × Row) := by simp [s_of, p_deep, p_wide, qk, c_2, c_3]
        exact fr_i hx hb hr hlocks hX hC as (congrArg (fun z => some (Value.int z)) (t2_1 hs)) (congrArg (fun z => cct G (pg d kp as un to sc z tp sh) sp) (t2_2 hs)).symm dX0_of_68
      · refine lv_aload_n hx hb dX0_of_60 rfl (lv_at hl 0 rfl) ?_
        refine lv_iload_n hx hb dX0_of_61 rfl (lv_at hl 1 rfl) ?_
        refine fc_V (As := [.int k]) (rest := []) hx hb hml hown hts hX hC (m_X0_strikeOf_3 k hk qk) (lw_V q542 q544 qs5 q108 q545) hdV_X0_strikeOf ⟨rfl, rfl⟩ ⟨Nat.le_of_ble_eq_true rfl, Nat.le_of_ble_eq_true rfl⟩ (fx_recv (g := 5) (i := 0) (ci := 1) (q := (RX0, TX0, 13)) hX hC (cin rfl) rfl rfl) hl.1 rfl (Nat.le_of_ble_eq_true rfl) ⟨Nat.zero_le _, Nat.zero_le _⟩ dX0_of_62 (fun _ H locs hC => ?_)
        refine W.eq (g2 := F0 m 65 ls [.ref (G.ad 23 (ix k))]) rfl ?_
        refine fc_O (C := RX9) (owner := "OwlEars$Strike") (x := ⟨"OwlEars$Strike", "kind", "()I"⟩) (As := []) (rest := []) hx hb hml hown hts hX hC (m_X9_kind_3 (ix k) (vin_lt hk)) (lw6 q546 q549 q547 q561 q562 q120) q563 q574 (by refine ⟨by decide, by decide, ?_⟩; show _ = some 0; decide +kernel) ⟨rfl, rfl⟩ ⟨Nat.le_of_ble_eq_true rfl, Nat.le_of_ble_eq_true rfl⟩ (fx_recv (g := 23) (i := (ix k)) (ci := 9) (q := (RX9, TX9, 4)) hX hC (cin (decide_eq_true (vin_lt hk))) rfl rfl) hl.1 rfl (Nat.le_of_ble_eq_true rfl) ⟨Nat.zero_le _, Nat.zero_le _⟩ dX0_of_65 (fun _ H locs hC => ?_)
        refine W.eq (g2 := F0 m 68 ls [.int 3]) rfl ?_
        have hs : s_of d fd k what = ((3, fd) : Int32 × Row) := by simp [s_of, p_deep, p_wide, qk, c_2, c_3]
        exact fr_i hx hb hr hlocks hX hC as (congrArg (fun z => some (Value.int z)) (t2_1 hs)) (congrArg (fun z => cct G (pg d kp as un to sc z tp sh) sp) (t2_2 hs)).symm dX0_of_68
      · refine lv_aload_n hx hb dX0_of_60 rfl (lv_at hl 0 rfl) ?_
        refine lv_iload_n hx hb dX0_of_61 rfl (lv_at hl 1 rfl) ?_
        refine fc_V (As := [.int k]) (rest := []) hx hb hml hown hts hX hC (m_X0_strikeOf_4 k hk qk) (lw_V q542 q544 qs5 q108 q545) hdV_X0_strikeOf ⟨rfl, rfl⟩ ⟨Nat.le_of_ble_eq_true rfl, Nat.le_of_ble_eq_true rfl⟩ (fx_recv (g := 5) (i := 0) (ci := 1) (q := (RX0, TX0, 13)) hX hC (cin rfl) rfl rfl) hl.1 rfl (Nat.le_of_ble_eq_true rfl) ⟨Nat.zero_le _, Nat.zero_le _⟩ dX0_of_62 (fun _ H locs hC => ?_)
        refine W.eq (g2 := F0 m 65 ls [.ref (G.ad 24 (ix k))]) rfl ?_
        refine fc_O (C := RX10) (owner := "OwlEars$Strike") (x := ⟨"OwlEars$Strike", "kind", "()I"⟩) (As := []) (rest := []) hx hb hml hown hts hX hC (m_X10_kind_4 (ix k) (vin_lt hk)) (lw6 q546 q549 q547 q570 q571 q121) q572 q574 (by refine ⟨by decide, by decide, ?_⟩; show _ = some 0; decide +kernel) ⟨rfl, rfl⟩ ⟨Nat.le_of_ble_eq_true rfl, Nat.le_of_ble_eq_true rfl⟩ (fx_recv (g := 24) (i := (ix k)) (ci := 10) (q := (RX10, TX10, 5)) hX hC (cin (decide_eq_true (vin_lt hk))) rfl rfl) hl.1 rfl (Nat.le_of_ble_eq_true rfl) ⟨Nat.zero_le _, Nat.zero_le _⟩ dX0_of_65 (fun _ H locs hC => ?_)
        refine W.eq (g2 := F0 m 68 ls [.int 4]) rfl ?_
        have hs : s_of d fd k what = ((4, fd) : Int32 × Row) := by simp [s_of, p_deep, p_wide, qk, c_2, c_3]
        exact fr_i hx hb hr hlocks hX hC as (congrArg (fun z => some (Value.int z)) (t2_1 hs)) (congrArg (fun z => cct G (pg d kp as un to sc z tp sh) sp) (t2_2 hs)).symm dX0_of_68
      · refine lv_aload_n hx hb dX0_of_60 rfl (lv_at hl 0 rfl) ?_
        refine lv_iload_n hx hb dX0_of_61 rfl (lv_at hl 1 rfl) ?_
        refine fc_V (As := [.int k]) (rest := []) hx hb hml hown hts hX hC (m_X0_strikeOf_5 k hk qk) (lw_V q542 q544 qs5 q108 q545) hdV_X0_strikeOf ⟨rfl, rfl⟩ ⟨Nat.le_of_ble_eq_true rfl, Nat.le_of_ble_eq_true rfl⟩ (fx_recv (g := 5) (i := 0) (ci := 1) (q := (RX0, TX0, 13)) hX hC (cin rfl) rfl rfl) hl.1 rfl (Nat.le_of_ble_eq_true rfl) ⟨Nat.zero_le _, Nat.zero_le _⟩ dX0_of_62 (fun _ H locs hC => ?_)
        refine W.eq (g2 := F0 m 65 ls [.ref (G.ad 25 (ix k))]) rfl ?_
        refine fc_O (C := RX11) (owner := "OwlEars$Strike") (x := ⟨"OwlEars$Strike", "kind", "()I"⟩) (As := []) (rest := []) hx hb hml hown hts hX hC (m_X11_kind_5 (ix k) (vin_lt hk)) (lw6 q546 q549 q547 q565 q566 q122) q567 q574 (by refine ⟨by decide, by decide, ?_⟩; show _ = some 0; decide +kernel) ⟨rfl, rfl⟩ ⟨Nat.le_of_ble_eq_true rfl, Nat.le_of_ble_eq_true rfl⟩ (fx_recv (g := 25) (i := (ix k)) (ci := 11) (q := (RX11, TX11, 3)) hX hC (cin (decide_eq_true (vin_lt hk))) rfl rfl) hl.1 rfl (Nat.le_of_ble_eq_true rfl) ⟨Nat.zero_le _, Nat.zero_le _⟩ dX0_of_65 (fun _ H locs hC => ?_)
        refine W.eq (g2 := F0 m 68 ls [.int 5]) rfl ?_
        have hs : s_of d fd k what = ((5, fd) : Int32 × Row) := by simp [s_of, p_deep, p_wide, qk, c_2, c_3]
        exact fr_i hx hb hr hlocks hX hC as (congrArg (fun z => some (Value.int z)) (t2_1 hs)) (congrArg (fun z => cct G (pg d kp as un to sc z tp sh) sp) (t2_2 hs)).symm dX0_of_68
      · refine lv_aload_n hx hb dX0_of_60 rfl (lv_at hl 0 rfl) ?_
        refine lv_iload_n hx hb dX0_of_61 rfl (lv_at hl 1 rfl) ?_
        refine fc_V (As := [.int k]) (rest := []) hx hb hml hown hts hX hC (m_X0_strikeOf_6 k hk qk) (lw_V q542 q544 qs5 q108 q545) hdV_X0_strikeOf ⟨rfl, rfl⟩ ⟨Nat.le_of_ble_eq_true rfl, Nat.le_of_ble_eq_true rfl⟩ (fx_recv (g := 5) (i := 0) (ci := 1) (q := (RX0, TX0, 13)) hX hC (cin rfl) rfl rfl) hl.1 rfl (Nat.le_of_ble_eq_true rfl) ⟨Nat.zero_le _, Nat.zero_le _⟩ dX0_of_62 (fun _ H locs hC => ?_)
        refine W.eq (g2 := F0 m 65 ls [.ref (G.ad 26 (ix k))]) rfl ?_
        refine fc_O (C := RX12) (owner := "OwlEars$Strike") (x := ⟨"OwlEars$Strike", "kind", "()I"⟩) (As := []) (rest := []) hx hb hml hown hts hX hC (m_X12_kind_6 (ix k) (vin_lt hk)) (lw6 q546 q549 q547 q554 q555 q123) q556 q574 (by refine ⟨by decide, by decide, ?_⟩; show _ = some 0; decide +kernel) ⟨rfl, rfl⟩ ⟨Nat.le_of_ble_eq_true rfl, Nat.le_of_ble_eq_true rfl⟩ (fx_recv (g := 26) (i := (ix k)) (ci := 12) (q := (RX12, TX12, 4)) hX hC (cin (decide_eq_true (vin_lt hk))) rfl rfl) hl.1 rfl (Nat.le_of_ble_eq_true rfl) ⟨Nat.zero_le _, Nat.zero_le _⟩ dX0_of_65 (fun _ H locs hC => ?_)
        refine W.eq (g2 := F0 m 68 ls [.int 6]) rfl ?_
        have hs : s_of d fd k what = ((6, fd) : Int32 × Row) := by simp [s_of, p_deep, p_wide, qk, c_2, c_3]
        exact fr_i hx hb hr hlocks hX hC as (congrArg (fun z => some (Value.int z)) (t2_1 hs)) (congrArg (fun z => cct G (pg d kp as un to sc z tp sh) sp) (t2_2 hs)).symm dX0_of_68
    by_cases c_18 : what = 1
    · refine lv_tableIn (off := 54) (tgt := 69) hx hb dX0_of_15 (by rw [c_18]; decide) (by rw [c_18]; decide) (by rw [c_18]; rfl) (by decide) ?_
      subst c_18
      refine lv_aload_n hx hb dX0_of_69 rfl (lv_at hl 0 rfl) ?_
      refine fg_get (C := RX0) (T := TX0) (N := 13) (ci := 1) (g := 5) (i := 0) (v := .ref (G.ad 0 0)) hx hb hown hts hX hC in_X0 rfl (cin rfl) rfl 3 (by decide) q425 (fun _ h => h) rfl dX0_of_70 ?_
      refine fg_getN (C := RX4) (T := TX4) (N := 9) (ci := 0) (g := 0) (i := 0) (v := .ref (G.ad 0 5)) hx hb hown hts hX hC in_X4 rfl (cin rfl) rfl 5 (by decide) (hX.2.2.1.F q257) (fun _ h => h) rfl dX0_of_73 ?_
      refine lv_iload_n hx hb dX0_of_76 rfl (lv_at hl 2 rfl) ?_
      refine fg_ald (g := 0) (i := 5) (t0 := 1) (ty := .array .int) (v := .ref (G.ad 0 7)) hx hb hX hC (cin rfl) rfl rfl rfl (vin_b rfl) rfl dX0_of_77 ?_
      refine lv_iload_n hx hb dX0_of_78 rfl (lv_at hl 1 rfl) ?_
      refine fg_iald (g := 0) (i := 7) (t0 := 0) (v := d (93 + 4 * (ix k))) hx hb hX hC (cin rfl) rfl rfl hk rfl dX0_of_79 ?_
      have hs : s_of d fd k 1 = ((d (93 + 4 * (ix k)), fd) : Int32 × Row) := by simp [s_of, c_2]
      exact fr_i hx hb hr hlocks hX hC as (congrArg (fun z => some (Value.int z)) (t2_1 hs)) (congrArg (fun z => cct G (pg d kp as un to sc z tp sh) sp) (t2_2 hs)).symm dX0_of_80
    by_cases c_19 : what = 2
    · refine lv_tableIn (off := 54) (tgt := 69) hx hb dX0_of_15 (by rw [c_19]; decide) (by rw [c_19]; decide) (by rw [c_19]; rfl) (by decide) ?_
      subst c_19
      refine lv_aload_n hx hb dX0_of_69 rfl (lv_at hl 0 rfl) ?_
      refine fg_get (C := RX0) (T := TX0) (N := 13) (ci := 1) (g := 5) (i := 0) (v := .ref (G.ad 0 0)) hx hb hown hts hX hC in_X0 rfl (cin rfl) rfl 3 (by decide) q425 (fun _ h => h) rfl dX0_of_70 ?_
      refine fg_getN (C := RX4) (T := TX4) (N := 9) (ci := 0) (g := 0) (i := 0) (v := .ref (G.ad 0 5)) hx hb hown hts hX hC in_X4 rfl (cin rfl) rfl 5 (by decide) (hX.2.2.1.F q257) (fun _ h => h) rfl dX0_of_73 ?_
      refine lv_iload_n hx hb dX0_of_76 rfl (lv_at hl 2 rfl) ?_
      refine fg_ald (g := 0) (i := 5) (t0 := 1) (ty := .array .int) (v := .ref (G.ad 0 8)) hx hb hX hC (cin rfl) rfl rfl rfl (vin_b rfl) rfl dX0_of_77 ?_
      refine lv_iload_n hx hb dX0_of_78 rfl (lv_at hl 1 rfl) ?_
      refine fg_iald (g := 0) (i := 8) (t0 := 0) (v := d (94 + 4 * (ix k))) hx hb hX hC (cin rfl) rfl rfl hk rfl dX0_of_79 ?_
      have hs : s_of d fd k 2 = ((d (94 + 4 * (ix k)), fd) : Int32 × Row) := by simp [s_of, c_2]
      exact fr_i hx hb hr hlocks hX hC as (congrArg (fun z => some (Value.int z)) (t2_1 hs)) (congrArg (fun z => cct G (pg d kp as un to sc z tp sh) sp) (t2_2 hs)).symm dX0_of_80
    by_cases c_20 : what = 3
    · refine lv_tableIn (off := 54) (tgt := 69) hx hb dX0_of_15 (by rw [c_20]; decide) (by rw [c_20]; decide) (by rw [c_20]; rfl) (by decide) ?_
      subst c_20
      refine lv_aload_n hx hb dX0_of_69 rfl (lv_at hl 0 rfl) ?_
      refine fg_get (C := RX0) (T := TX0) (N := 13) (ci := 1) (g := 5) (i := 0) (v := .ref (G.ad 0 0)) hx hb hown hts hX hC in_X0 rfl (cin rfl) rfl 3 (by decide) q425 (fun _ h => h) rfl dX0_of_70 ?_
      refine fg_getN (C := RX4) (T := TX4) (N := 9) (ci := 0) (g := 0) (i := 0) (v := .ref (G.ad 0 5)) hx hb hown hts hX hC in_X4 rfl (cin rfl) rfl 5 (by decide) (hX.2.2.1.F q257) (fun _ h => h) rfl dX0_of_73 ?_
      refine lv_iload_n hx hb dX0_of_76 rfl (lv_at hl 2 rfl) ?_
      refine fg_ald (g := 0) (i := 5) (t0 := 1) (ty := .array .int) (v := .ref (G.ad 0 9)) hx hb hX hC (cin rfl) rfl rfl rfl (vin_b rfl) rfl dX0_of_77 ?_
      refine lv_iload_n hx hb dX0_of_78 rfl (lv_at hl 1 rfl) ?_
      refine fg_iald (g := 0) (i := 9) (t0 := 0) (v := d (95 + 4 * (ix k))) hx hb hX hC (cin rfl) rfl rfl hk rfl dX0_of_79 ?_
      have hs : s_of d fd k 3 = ((d (95 + 4 * (ix k)), fd) : Int32 × Row) := by simp [s_of, c_2]
      exact fr_i hx hb hr hlocks hX hC as (congrArg (fun z => some (Value.int z)) (t2_1 hs)) (congrArg (fun z => cct G (pg d kp as un to sc z tp sh) sp) (t2_2 hs)).symm dX0_of_80
    by_cases c_21 : what = 4
    · refine lv_tableIn (off := 66) (tgt := 81) hx hb dX0_of_15 (by rw [c_21]; decide) (by rw [c_21]; decide) (by rw [c_21]; rfl) (by decide) ?_
      refine lv_aload_n hx hb dX0_of_81 rfl (lv_at hl 0 rfl) ?_
      refine lv_iload_n hx hb dX0_of_82 rfl (lv_at hl 1 rfl) ?_
      refine fc_V (As := [.int k]) (rest := []) hx hb hml hown hts hX hC (m_X0_takesOf hw k (kin_of hw c_2)) (lw_V q575 q577 qs6 q108 q578) hdV_X0_takesOf ⟨rfl, rfl⟩ ⟨Nat.le_of_ble_eq_true rfl, Nat.le_of_ble_eq_true rfl⟩ (fx_recv (g := 5) (i := 0) (ci := 1) (q := (RX0, TX0, 13)) hX hC (cin rfl) rfl rfl) hl.1 rfl (Nat.le_of_ble_eq_true rfl) ⟨Nat.zero_le _, Nat.zero_le _⟩ dX0_of_83 (fun _ H locs hC => ?_)
      refine W.eq (g2 := F0 m 86 ls [.int (p_takes d k)]) rfl ?_
      have hs : s_of d fd k what = ((p_takes d k, fd) : Int32 × Row) := by simp [s_of, c_2, c_3, c_18, c_19, c_20, c_21]
      exact fr_i hx hb hr hlocks hX hC as (congrArg (fun z => some (Value.int z)) (t2_1 hs)) (congrArg (fun z => cct G (pg d kp as un to sc z tp sh) sp) (t2_2 hs)).symm dX0_of_86
    by_cases c_23 : what = 5
    · refine lv_tableIn (off := 72) (tgt := 87) hx hb dX0_of_15 (by rw [c_23]; decide) (by rw [c_23]; decide) (by rw [c_23]; rfl) (by decide) ?_
      rcases kind7' (hw.kind (ix k) (vin_lt hk)) with qk | qk | qk | qk | qk | qk | qk
      · refine lv_aload_n hx hb dX0_of_87 rfl (lv_at hl 0 rfl) ?_
        refine lv_iload_n hx hb dX0_of_88 rfl (lv_at hl 1 rfl) ?_
        refine fc_V (As := [.int k]) (rest := []) hx hb hml hown hts hX hC (m_X0_strikeOf_0 k hk qk) (lw_V q542 q544 qs5 q108 q545) hdV_X0_strikeOf ⟨rfl, rfl⟩ ⟨Nat.le_of_ble_eq_true rfl, Nat.le_of_ble_eq_true rfl⟩ (fx_recv (g := 5) (i := 0) (ci := 1) (q := (RX0, TX0, 13)) hX hC (cin rfl) rfl rfl) hl.1 rfl (Nat.le_of_ble_eq_true rfl) ⟨Nat.zero_le _, Nat.zero_le _⟩ dX0_of_89 (fun _ H locs hC => ?_)
        refine W.eq (g2 := F0 m 92 ls [.ref (G.ad 20 (ix k))]) rfl ?_
        refine fc_V (As := []) (rest := []) hx hb hml hown hts hX hC (m_X6_deep_0 (ix k) (vin_lt hk)) (lw_V q652 q653 q654 q117 q678) hdV_X6_deep ⟨rfl, rfl⟩ ⟨Nat.le_of_ble_eq_true rfl, Nat.le_of_ble_eq_true rfl⟩ (fx_recv (g := 20) (i := (ix k)) (ci := 6) (q := (RX6, TX6, 2)) hX hC (cin (decide_eq_true (vin_lt hk))) rfl rfl) hl.1 rfl (Nat.le_of_ble_eq_true rfl) ⟨Nat.zero_le _, Nat.zero_le _⟩ dX0_of_92 (fun _ H locs hC => ?_)
        refine W.eq (g2 := F0 m 95 ls [.int 8]) rfl ?_
        have hs : s_of d fd k what = ((8, fd) : Int32 × Row) := by simp [s_of, p_deep, p_wide, qk, c_2, c_3, c_18, c_19, c_20, c_21, c_23]
        exact fr_i hx hb hr hlocks hX hC as (congrArg (fun z => some (Value.int z)) (t2_1 hs)) (congrArg (fun z => cct G (pg d kp as un to sc z tp sh) sp) (t2_2 hs)).symm dX0_of_95
      · refine lv_aload_n hx hb dX0_of_87 rfl (lv_at hl 0 rfl) ?_
        refine lv_iload_n hx hb dX0_of_88 rfl (lv_at hl 1 rfl) ?_
        refine fc_V (As := [.int k]) (rest := []) hx hb hml hown hts hX hC (m_X0_strikeOf_1 k hk qk) (lw_V q542 q544 qs5 q108 q545) hdV_X0_strikeOf ⟨rfl, rfl⟩ ⟨Nat.le_of_ble_eq_true rfl, Nat.le_of_ble_eq_true rfl⟩ (fx_recv (g := 5) (i := 0) (ci := 1) (q := (RX0, TX0, 13)) hX hC (cin rfl) rfl rfl) hl.1 rfl (Nat.le_of_ble_eq_true rfl) ⟨Nat.zero_le _, Nat.zero_le _⟩ dX0_of_89 (fun _ H locs hC => ?_)
        refine W.eq (g2 := F0 m 92 ls [.ref (G.ad 21 (ix k))]) rfl ?_
        refine fc_O (C := RX7) (owner := "OwlEars$Strike") (x := ⟨"OwlEars$Strike", "deep", "()I"⟩) (As := []) (rest := []) hx hb hml hown hts hX hC (m_X7_deep_1 (ix k) (vin_lt hk)) (lw6 q652 q655 q653 q671 q664 q118) q665 q678 (by refine ⟨by decide, by decide, ?_⟩; show _ = some 0; decide +kernel) ⟨rfl, rfl⟩ ⟨Nat.le_of_ble_eq_true rfl, Nat.le_of_ble_eq_true rfl⟩ (fx_recv (g := 21) (i := (ix k)) (ci := 7) (q := (RX7, TX7, 3)) hX hC (cin (decide_eq_true (vin_lt hk))) rfl rfl) hl.1 rfl (Nat.le_of_ble_eq_true rfl) ⟨Nat.zero_le _, Nat.zero_le _⟩ dX0_of_92 (fun _ H locs hC => ?_)
        refine W.eq (g2 := F0 m 95 ls [.int 12]) rfl ?_
        have hs : s_of d fd k what = ((12, fd) : Int32 × Row) := by simp [s_of, p_deep, p_wide, qk, c_2, c_3, c_18, c_19, c_20, c_21, c_23]
        exact fr_i hx hb hr hlocks hX hC as (congrArg (fun z => some (Value.int z)) (t2_1 hs)) (congrArg (fun z => cct G (pg d kp as un to sc z tp sh) sp) (t2_2 hs)).symm dX0_of_95
      · refine lv_aload_n hx hb dX0_of_87 rfl (lv_at hl 0 rfl) ?_
        refine lv_iload_n hx hb dX0_of_88 rfl (lv_at hl 1 rfl) ?_
        refine fc_V (As := [.int k]) (rest := []) hx hb hml hown hts hX hC (m_X0_strikeOf_2 k hk qk) (lw_V q542 q544 qs5 q108 q545) hdV_X0_strikeOf ⟨rfl, rfl⟩ ⟨Nat.le_of_ble_eq_true rfl, Nat.le_of_ble_eq_true rfl⟩ (fx_recv (g := 5) (i := 0) (ci := 1) (q := (RX0, TX0, 13)) hX hC (cin rfl) rfl rfl) hl.1 rfl (Nat.le_of_ble_eq_true rfl) ⟨Nat.zero_le _, Nat.zero_le _⟩ dX0_of_89 (fun _ H locs hC => ?_)
        refine W.eq (g2 := F0 m 92 ls [.ref (G.ad 22 (ix k))]) rfl ?_
        refine fc_O (C := RX8) (owner := "OwlEars$Strike") (x := ⟨"OwlEars$Strike", "deep", "()I"⟩) (As := []) (rest := []) hx hb hml hown hts hX hC (m_X8_deep_2 (ix k) (vin_lt hk)) (lw6 q652 q655 q653 q656 q657 q119) q658 q678 (by refine ⟨by decide, by decide, ?_⟩; show _ = some 0; decide +kernel) ⟨rfl, rfl⟩ ⟨Nat.le_of_ble_eq_true rfl, Nat.le_of_ble_eq_true rfl⟩ (fx_recv (g := 22) (i := (ix k)) (ci := 8) (q := (RX8, TX8, 3)) hX hC (cin (decide_eq_true (vin_lt hk))) rfl rfl) hl.1 rfl (Nat.le_of_ble_eq_true rfl) ⟨Nat.zero_le _, Nat.zero_le _⟩ dX0_of_92 (fun _ H locs hC => ?_)
        refine W.eq (g2 := F0 m 95 ls [.int 6]) rfl ?_
        have hs : s_of d fd k what = ((6, fd) : Int32 × Row) := by simp [s_of, p_deep, p_wide, qk, c_2, c_3, c_18, c_19, c_20, c_21, c_23]
        exact fr_i hx hb hr hlocks hX hC as (congrArg (fun z => some (Value.int z)) (t2_1 hs)) (congrArg (fun z => cct G (pg d kp as un to sc z tp sh) sp) (t2_2 hs)).symm dX0_of_95
      · refine lv_aload_n hx hb dX0_of_87 rfl (lv_at hl 0 rfl) ?_
        refine lv_iload_n hx hb dX0_of_88 rfl (lv_at hl 1 rfl) ?_
        refine fc_V (As := [.int k]) (rest := []) hx hb hml hown hts hX hC (m_X0_strikeOf_3 k hk qk) (lw_V q542 q544 qs5 q108 q545) hdV_X0_strikeOf ⟨rfl, rfl⟩ ⟨Nat.le_of_ble_eq_true rfl, Nat.le_of_ble_eq_true rfl⟩ (fx_recv (g := 5) (i := 0) (ci := 1) (q := (RX0, TX0, 13)) hX hC (cin rfl) rfl rfl) hl.1 rfl (Nat.le_of_ble_eq_true rfl) ⟨Nat.zero_le _, Nat.zero_le _⟩ dX0_of_89 (fun _ H locs hC => ?_)
        refine W.eq (g2 := F0 m 92 ls [.ref (G.ad 23 (ix k))]) rfl ?_
        refine fc_O (C := RX9) (owner := "OwlEars$Strike") (x := ⟨"OwlEars$Strike", "deep", "()I"⟩) (As := []) (rest := []) hx hb hml hown hts hX hC (m_X8_deep_3 (ix k) (vin_lt hk)) (lw6 q652 q655 q653 q667 q657 q119) q658 q678 (by refine ⟨by decide, by decide, ?_⟩; show _ = some 0; decide +kernel) ⟨rfl, rfl⟩ ⟨Nat.le_of_ble_eq_true rfl, Nat.le_of_ble_eq_true rfl⟩ (fx_recv (g := 23) (i := (ix k)) (ci := 9) (q := (RX9, TX9, 4)) hX hC (cin (decide_eq_true (vin_lt hk))) rfl rfl) hl.1 rfl (Nat.le_of_ble_eq_true rfl) ⟨Nat.zero_le _, Nat.zero_le _⟩ dX0_of_92 (fun _ H locs hC => ?_)
        refine W.eq (g2 := F0 m 95 ls [.int 6]) rfl ?_
        have hs : s_of d fd k what = ((6, fd) : Int32 × Row) := by simp [s_of, p_deep, p_wide, qk, c_2, c_3, c_18, c_19, c_20, c_21, c_23]
        exact fr_i hx hb hr hlocks hX hC as (congrArg (fun z => some (Value.int z)) (t2_1 hs)) (congrArg (fun z => cct G (pg d kp as un to sc z tp sh) sp) (t2_2 hs)).symm dX0_of_95
      · refine lv_aload_n hx hb dX0_of_87 rfl (lv_at hl 0 rfl) ?_
        refine lv_iload_n hx hb dX0_of_88 rfl (lv_at hl 1 rfl) ?_
        refine fc_V (As := [.int k]) (rest := []) hx hb hml hown hts hX hC (m_X0_strikeOf_4 k hk qk) (lw_V q542 q544 qs5 q108 q545) hdV_X0_strikeOf ⟨rfl, rfl⟩ ⟨Nat.le_of_ble_eq_true rfl, Nat.le_of_ble_eq_true rfl⟩ (fx_recv (g := 5) (i := 0) (ci := 1) (q := (RX0, TX0, 13)) hX hC (cin rfl) rfl rfl) hl.1 rfl (Nat.le_of_ble_eq_true rfl) ⟨Nat.zero_le _, Nat.zero_le _⟩ dX0_of_89 (fun _ H locs hC => ?_)
        refine W.eq (g2 := F0 m 92 ls [.ref (G.ad 24 (ix k))]) rfl ?_
        refine fc_O (C := RX10) (owner := "OwlEars$Strike") (x := ⟨"OwlEars$Strike", "deep", "()I"⟩) (As := []) (rest := []) hx hb hml hown hts hX hC (m_X10_deep_4 (ix k) (vin_lt hk)) (lw6 q652 q655 q653 q672 q673 q121) q674 q678 (by refine ⟨by decide, by decide, ?_⟩; show _ = some 0; decide +kernel) ⟨rfl, rfl⟩ ⟨Nat.le_of_ble_eq_true rfl, Nat.le_of_ble_eq_true rfl⟩ (fx_recv (g := 24) (i := (ix k)) (ci := 10) (q := (RX10, TX10, 5)) hX hC (cin (decide_eq_true (vin_lt hk))) rfl rfl) hl.1 rfl (Nat.le_of_ble_eq_true rfl) ⟨Nat.zero_le _, Nat.zero_le _⟩ dX0_of_92 (fun _ H locs hC => ?_)
        refine W.eq (g2 := F0 m 95 ls [.int (6 + d (94 + 4 * (ix k)))]) rfl ?_
        have hs : s_of d fd k what = ((6 + d (94 + 4 * (ix k)), fd) : Int32 × Row) := by simp [s_of, p_deep, p_wide, qk, c_2, c_3, c_18, c_19, c_20, c_21, c_23]
        exact fr_i hx hb hr hlocks hX hC as (congrArg (fun z => some (Value.int z)) (t2_1 hs)) (congrArg (fun z => cct G (pg d kp as un to sc z tp sh) sp) (t2_2 hs)).symm dX0_of_95
      · refine lv_aload_n hx hb dX0_of_87 rfl (lv_at hl 0 rfl) ?_
        refine lv_iload_n hx hb dX0_of_88 rfl (lv_at hl 1 rfl) ?_
        refine fc_V (As := [.int k]) (rest := []) hx hb hml hown hts hX hC (m_X0_strikeOf_5 k hk qk) (lw_V q542 q544 qs5 q108 q545) hdV_X0_strikeOf ⟨rfl, rfl⟩ ⟨Nat.le_of_ble_eq_true rfl, Nat.le_of_ble_eq_true rfl⟩ (fx_recv (g := 5) (i := 0) (ci := 1) (q := (RX0, TX0, 13)) hX hC (cin rfl) rfl rfl) hl.1 rfl (Nat.le_of_ble_eq_true rfl) ⟨Nat.zero_le _, Nat.zero_le _⟩ dX0_of_89 (fun _ H locs hC => ?_)
        refine W.eq (g2 := F0 m 92 ls [.ref (G.ad 25 (ix k))]) rfl ?_
        refine fc_O (C := RX11) (owner := "OwlEars$Strike") (x := ⟨"OwlEars$Strike", "deep", "()I"⟩) (As := []) (rest := []) hx hb hml hown hts hX hC (m_X11_deep_5 (ix k) (vin_lt hk)) (lw6 q652 q655 q653 q668 q669 q122) q670 q678 (by refine ⟨by decide, by decide, ?_⟩; show _ = some 0; decide +kernel) ⟨rfl, rfl⟩ ⟨Nat.le_of_ble_eq_true rfl, Nat.le_of_ble_eq_true rfl⟩ (fx_recv (g := 25) (i := (ix k)) (ci := 11) (q := (RX11, TX11, 3)) hX hC (cin (decide_eq_true (vin_lt hk))) rfl rfl) hl.1 rfl (Nat.le_of_ble_eq_true rfl) ⟨Nat.zero_le _, Nat.zero_le _⟩ dX0_of_92 (fun _ H locs hC => ?_)
        refine W.eq (g2 := F0 m 95 ls [.int 0]) rfl ?_
        have hs : s_of d fd k what = ((0, fd) : Int32 × Row) := by simp [s_of, p_deep, p_wide, qk, c_2, c_3, c_18, c_19, c_20, c_21, c_23]
        exact fr_i hx hb hr hlocks hX hC as (congrArg (fun z => some (Value.int z)) (t2_1 hs)) (congrArg (fun z => cct G (pg d kp as un to sc z tp sh) sp) (t2_2 hs)).symm dX0_of_95
      · refine lv_aload_n hx hb dX0_of_87 rfl (lv_at hl 0 rfl) ?_
        refine lv_iload_n hx hb dX0_of_88 rfl (lv_at hl 1 rfl) ?_
        refine fc_V (As := [.int k]) (rest := []) hx hb hml hown hts hX hC (m_X0_strikeOf_6 k hk qk) (lw_V q542 q544 qs5 q108 q545) hdV_X0_strikeOf ⟨rfl, rfl⟩ ⟨Nat.le_of_ble_eq_true rfl, Nat.le_of_ble_eq_true rfl⟩ (fx_recv (g := 5) (i := 0) (ci := 1) (q := (RX0, TX0, 13)) hX hC (cin rfl) rfl rfl) hl.1 rfl (Nat.le_of_ble_eq_true rfl) ⟨Nat.zero_le _, Nat.zero_le _⟩ dX0_of_89 (fun _ H locs hC => ?_)
        refine W.eq (g2 := F0 m 92 ls [.ref (G.ad 26 (ix k))]) rfl ?_
        refine fc_O (C := RX12) (owner := "OwlEars$Strike") (x := ⟨"OwlEars$Strike", "deep", "()I"⟩) (As := []) (rest := []) hx hb hml hown hts hX hC (m_X12_deep_6 (ix k) (vin_lt hk)) (lw6 q652 q655 q653 q660 q661 q123) q662 q678 (by refine ⟨by decide, by decide, ?_⟩; show _ = some 0; decide +kernel) ⟨rfl, rfl⟩ ⟨Nat.le_of_ble_eq_true rfl, Nat.le_of_ble_eq_true rfl⟩ (fx_recv (g := 26) (i := (ix k)) (ci := 12) (q := (RX12, TX12, 4)) hX hC (cin (decide_eq_true (vin_lt hk))) rfl rfl) hl.1 rfl (Nat.le_of_ble_eq_true rfl) ⟨Nat.zero_le _, Nat.zero_le _⟩ dX0_of_92 (fun _ H locs hC => ?_)
        refine W.eq (g2 := F0 m 95 ls [.int 6]) rfl ?_
        have hs : s_of d fd k what = ((6, fd) : Int32 × Row) := by simp [s_of, p_deep, p_wide, qk, c_2, c_3, c_18, c_19, c_20, c_21, c_23]
        exact fr_i hx hb hr hlocks hX hC as (congrArg (fun z => some (Value.int z)) (t2_1 hs)) (congrArg (fun z => cct G (pg d kp as un to sc z tp sh) sp) (t2_2 hs)).symm dX0_of_95
    by_cases c_38 : what = 6
    · refine lv_tableIn (off := 81) (tgt := 96) hx hb dX0_of_15 (by rw [c_38]; decide) (by rw [c_38]; decide) (by rw [c_38]; rfl) (by decide) ?_
      rcases kind7' (hw.kind (ix k) (vin_lt hk)) with qk | qk | qk | qk | qk | qk | qk
      · refine lv_aload_n hx hb dX0_of_96 rfl (lv_at hl 0 rfl) ?_
        refine lv_iload_n hx hb dX0_of_97 rfl (lv_at hl 1 rfl) ?_
        refine fc_V (As := [.int k]) (rest := []) hx hb hml hown hts hX hC (m_X0_strikeOf_0 k hk qk) (lw_V q542 q544 qs5 q108 q545) hdV_X0_strikeOf ⟨rfl, rfl⟩ ⟨Nat.le_of_ble_eq_true rfl, Nat.le_of_ble_eq_true rfl⟩ (fx_recv (g := 5) (i := 0) (ci := 1) (q := (RX0, TX0, 13)) hX hC (cin rfl) rfl rfl) hl.1 rfl (Nat.le_of_ble_eq_true rfl) ⟨Nat.zero_le _, Nat.zero_le _⟩ dX0_of_98 (fun _ H locs hC => ?_)
        refine W.eq (g2 := F0 m 101 ls [.ref (G.ad 20 (ix k))]) rfl ?_
        refine fc_V (As := []) (rest := []) hx hb hml hown hts hX hC (m_X6_wide_0 (ix k) (vin_lt hk)) (lw_V q679 q680 q681 q117 q695) hdV_X6_wide ⟨rfl, rfl⟩ ⟨Nat.le_of_ble_eq_true rfl, Nat.le_of_ble_eq_true rfl⟩ (fx_recv (g := 20) (i := (ix k)) (ci := 6) (q := (RX6, TX6, 2)) hX hC (cin (decide_eq_true (vin_lt hk))) rfl rfl) hl.1 rfl (Nat.le_of_ble_eq_true rfl) ⟨Nat.zero_le _, Nat.zero_le _⟩ dX0_of_101 (fun _ H locs hC => ?_)
        refine W.eq (g2 := F0 m 104 ls [.int 0]) rfl ?_
        have hs : s_of d fd k what = ((0, fd) : Int32 × Row) := by simp [s_of, p_deep, p_wide, qk, c_2, c_3, c_18, c_19, c_20, c_21, c_23, c_38]
        exact fr_i hx hb hr hlocks hX hC as (congrArg (fun z => some (Value.int z)) (t2_1 hs)) (congrArg (fun z => cct G (pg d kp as un to sc z tp sh) sp) (t2_2 hs)).symm dX0_of_104
      · refine lv_aload_n hx hb dX0_of_96 rfl (lv_at hl 0 rfl) ?_
        refine lv_iload_n hx hb dX0_of_97 rfl (lv_at hl 1 rfl) ?_
        refine fc_V (As := [.int k]) (rest := []) hx hb hml hown hts hX hC (m_X0_strikeOf_1 k hk qk) (lw_V q542 q544 qs5 q108 q545) hdV_X0_strikeOf ⟨rfl, rfl⟩ ⟨Nat.le_of_ble_eq_true rfl, Nat.le_of_ble_eq_true rfl⟩ (fx_recv (g := 5) (i := 0) (ci := 1) (q := (RX0, TX0, 13)) hX hC (cin rfl) rfl rfl) hl.1 rfl (Nat.le_of_ble_eq_true rfl) ⟨Nat.zero_le _, Nat.zero_le _⟩ dX0_of_98 (fun _ H locs hC => ?_)
        refine W.eq (g2 := F0 m 101 ls [.ref (G.ad 21 (ix k))]) rfl ?_
        refine fc_U (C := RX7) (owner := "OwlEars$Strike") (x := ⟨"OwlEars$Strike", "wide", "()I"⟩) (As := []) (rest := []) hx hb hml hown hts hX hC (m_X6_wide_1 (ix k) (vin_lt hk)) (lw5 q679 q682 q693 q680 q117) q695 rfl (by refine ⟨by decide, by decide, ?_⟩; show _ = some 0; decide +kernel) ⟨rfl, rfl⟩ ⟨Nat.le_of_ble_eq_true rfl, Nat.le_of_ble_eq_true rfl⟩ (fx_recv (g := 21) (i := (ix k)) (ci := 7) (q := (RX7, TX7, 3)) hX hC (cin (decide_eq_true (vin_lt hk))) rfl rfl) hl.1 rfl (Nat.le_of_ble_eq_true rfl) ⟨Nat.zero_le _, Nat.zero_le _⟩ dX0_of_101 (fun _ H locs hC => ?_)
        refine W.eq (g2 := F0 m 104 ls [.int 0]) rfl ?_
        have hs : s_of d fd k what = ((0, fd) : Int32 × Row) := by simp [s_of, p_deep, p_wide, qk, c_2, c_3, c_18, c_19, c_20, c_21, c_23, c_38]
        exact fr_i hx hb hr hlocks hX hC as (congrArg (fun z => some (Value.int z)) (t2_1 hs)) (congrArg (fun z => cct G (pg d kp as un to sc z tp sh) sp) (t2_2 hs)).symm dX0_of_104
      · refine lv_aload_n hx hb dX0_of_96 rfl (lv_at hl 0 rfl) ?_
        refine lv_iload_n hx hb dX0_of_97 rfl (lv_at hl 1 rfl) ?_
        refine fc_V (As := [.int k]) (rest := []) hx hb hml hown hts hX hC (m_X0_strikeOf_2 k hk qk) (lw_V q542 q544 qs5 q108 q545) hdV_X0_strikeOf ⟨rfl, rfl⟩ ⟨Nat.le_of_ble_eq_true rfl, Nat.le_of_ble_eq_true rfl⟩ (fx_recv (g := 5) (i := 0) (ci := 1) (q := (RX0, TX0, 13)) hX hC (cin rfl) rfl rfl) hl.1 rfl (Nat.le_of_ble_eq_true rfl) ⟨Nat.zero_le _, Nat.zero_le _⟩ dX0_of_98 (fun _ H locs hC => ?_)
        refine W.eq (g2 := F0 m 101 ls [.ref (G.ad 22 (ix k))]) rfl ?_
        refine fc_O (C := RX8) (owner := "OwlEars$Strike") (x := ⟨"OwlEars$Strike", "wide", "()I"⟩) (As := []) (rest := []) hx hb hml hown hts hX hC (m_X8_wide_2 (ix k) (vin_lt hk)) (lw6 q679 q682 q680 q683 q684 q119) q685 q695 (by refine ⟨by decide, by decide, ?_⟩; show _ = some 0; decide +kernel) ⟨rfl, rfl⟩ ⟨Nat.le_of_ble_eq_true rfl, Nat.le_of_ble_eq_true rfl⟩ (fx_recv (g := 22) (i := (ix k)) (ci := 8) (q := (RX8, TX8, 3)) hX hC (cin (decide_eq_true (vin_lt hk))) rfl rfl) hl.1 rfl (Nat.le_of_ble_eq_true rfl) ⟨Nat.zero_le _, Nat.zero_le _⟩ dX0_of_101 (fun _ H locs hC => ?_)
        refine W.eq (g2 := F0 m 104 ls [.int 1]) rfl ?_
        have hs : s_of d fd k what = ((1, fd) : Int32 × Row) := by simp [s_of, p_deep, p_wide, qk, c_2, c_3, c_18, c_19, c_20, c_21, c_23, c_38]
        exact fr_i hx hb hr hlocks hX hC as (congrArg (fun z => some (Value.int z)) (t2_1 hs)) (congrArg (fun z => cct G (pg d kp as un to sc z tp sh) sp) (t2_2 hs)).symm dX0_of_104
      · refine lv_aload_n hx hb dX0_of_96 rfl (lv_at hl 0 rfl) ?_
        refine lv_iload_n hx hb dX0_of_97 rfl (lv_at hl 1 rfl) ?_
        refine fc_V (As := [.int k]) (rest := []) hx hb hml hown hts hX hC (m_X0_strikeOf_3 k hk qk) (lw_V q542 q544 qs5 q108 q545) hdV_X0_strikeOf ⟨rfl, rfl⟩ ⟨Nat.le_of_ble_eq_true rfl, Nat.le_of_ble_eq_true rfl⟩ (fx_recv (g := 5) (i := 0) (ci := 1) (q := (RX0, TX0, 13)) hX hC (cin rfl) rfl rfl) hl.1 rfl (Nat.le_of_ble_eq_true rfl) ⟨Nat.zero_le _, Nat.zero_le _⟩ dX0_of_98 (fun _ H locs hC => ?_)
        refine W.eq (g2 := F0 m 101 ls [.ref (G.ad 23 (ix k))]) rfl ?_
        refine fc_O (C := RX9) (owner := "OwlEars$Strike") (x := ⟨"OwlEars$Strike", "wide", "()I"⟩) (As := []) (rest := []) hx hb hml hown hts hX hC (m_X8_wide_3 (ix k) (vin_lt hk)) (lw6 q679 q682 q680 q688 q684 q119) q685 q695 (by refine ⟨by decide, by decide, ?_⟩; show _ = some 0; decide +kernel) ⟨rfl, rfl⟩ ⟨Nat.le_of_ble_eq_true rfl, Nat.le_of_ble_eq_true rfl⟩ (fx_recv (g := 23) (i := (ix k)) (ci := 9) (q := (RX9, TX9, 4)) hX hC (cin (decide_eq_true (vin_lt hk))) rfl rfl) hl.1 rfl (Nat.le_of_ble_eq_true rfl) ⟨Nat.zero_le _, Nat.zero_le _⟩ dX0_of_101 (fun _ H locs hC => ?_)
        refine W.eq (g2 := F0 m 104 ls [.int 1]) rfl ?_
        have hs : s_of d fd k what = ((1, fd) : Int32 × Row) := by simp [s_of, p_deep, p_wide, qk, c_2, c_3, c_18, c_19, c_20, c_21, c_23, c_38]
        exact fr_i hx hb hr hlocks hX hC as (congrArg (fun z => some (Value.int z)) (t2_1 hs)) (congrArg (fun z => cct G (pg d kp as un to sc z tp sh) sp) (t2_2 hs)).symm dX0_of_104
      · refine lv_aload_n hx hb dX0_of_96 rfl (lv_at hl 0 rfl) ?_
        refine lv_iload_n hx hb dX0_of_97 rfl (lv_at hl 1 rfl) ?_
        refine fc_V (As := [.int k]) (rest := []) hx hb hml hown hts hX hC (m_X0_strikeOf_4 k hk qk) (lw_V q542 q544 qs5 q108 q545) hdV_X0_strikeOf ⟨rfl, rfl⟩ ⟨Nat.le_of_ble_eq_true rfl, Nat.le_of_ble_eq_true rfl⟩ (fx_recv (g := 5) (i := 0) (ci := 1) (q := (RX0, TX0, 13)) hX hC (cin rfl) rfl rfl) hl.1 rfl (Nat.le_of_ble_eq_true rfl) ⟨Nat.zero_le _, Nat.zero_le _⟩ dX0_of_98 (fun _ H locs hC => ?_)
        refine W.eq (g2 := F0 m 101 ls [.ref (G.ad 24 (ix k))]) rfl ?_
        refine fc_O (C := RX10) (owner := "OwlEars$Strike") (x := ⟨"OwlEars$Strike", "wide", "()I"⟩) (As := []) (rest := []) hx hb hml hown hts hX hC (m_X8_wide_4 (ix k) (vin_lt hk)) (lw6 q679 q682 q680 q694 q684 q119) q685 q695 (by refine ⟨by decide, by decide, ?_⟩; show _ = some 0; decide +kernel) ⟨rfl, rfl⟩ ⟨Nat.le_of_ble_eq_true rfl, Nat.le_of_ble_eq_true rfl⟩ (fx_recv (g := 24) (i := (ix k)) (ci := 10) (q := (RX10, TX10, 5)) hX hC (cin (decide_eq_true (vin_lt hk))) rfl rfl) hl.1 rfl (Nat.le_of_ble_eq_true rfl) ⟨Nat.zero_le _, Nat.zero_le _⟩ dX0_of_101 (fun _ H locs hC => ?_)
        refine W.eq (g2 := F0 m 104 ls [.int 1]) rfl ?_
        have hs : s_of d fd k what = ((1, fd) : Int32 × Row) := by simp [s_of, p_deep, p_wide, qk, c_2, c_3, c_18, c_19, c_20, c_21, c_23, c_38]
        exact fr_i hx hb hr hlocks hX hC as (congrArg (fun z => some (Value.int z)) (t2_1 hs)) (congrArg (fun z => cct G (pg d kp as un to sc z tp sh) sp) (t2_2 hs)).symm dX0_of_104
      · refine lv_aload_n hx hb dX0_of_96 rfl (lv_at hl 0 rfl) ?_
        refine lv_iload_n hx hb dX0_of_97 rfl (lv_at hl 1 rfl) ?_
        refine fc_V (As := [.int k]) (rest := []) hx hb hml hown hts hX hC (m_X0_strikeOf_5 k hk qk) (lw_V q542 q544 qs5 q108 q545) hdV_X0_strikeOf ⟨rfl, rfl⟩ ⟨Nat.le_of_ble_eq_true rfl, Nat.le_of_ble_eq_true rfl⟩ (fx_recv (g := 5) (i := 0) (ci := 1) (q := (RX0, TX0, 13)) hX hC (cin rfl) rfl rfl) hl.1 rfl (Nat.le_of_ble_eq_true rfl) ⟨Nat.zero_le _, Nat.zero_le _⟩ dX0_of_98 (fun _ H locs hC => ?_)
        refine W.eq (g2 := F0 m 101 ls [.ref (G.ad 25 (ix k))]) rfl ?_
        refine fc_O (C := RX11) (owner := "OwlEars$Strike") (x := ⟨"OwlEars$Strike", "wide", "()I"⟩) (As := []) (rest := []) hx hb hml hown hts hX hC (m_X11_wide_5 (ix k) (vin_lt hk)) (lw6 q679 q682 q680 q689 q690 q122) q691 q695 (by refine ⟨by decide, by decide, ?_⟩; show _ = some 0; decide +kernel) ⟨rfl, rfl⟩ ⟨Nat.le_of_ble_eq_true rfl, Nat.le_of_ble_eq_true rfl⟩ (fx_recv (g := 25) (i := (ix k)) (ci := 11) (q := (RX11, TX11, 3)) hX hC (cin (decide_eq_true (vin_lt hk))) rfl rfl) hl.1 rfl (Nat.le_of_ble_eq_true rfl) ⟨Nat.zero_le _, Nat.zero_le _⟩ dX0_of_101 (fun _ H locs hC => ?_)
        refine W.eq (g2 := F0 m 104 ls [.int 2]) rfl ?_
        have hs : s_of d fd k what = ((2, fd) : Int32 × Row) := by simp [s_of, p_deep, p_wide, qk, c_2, c_3, c_18, c_19, c_20, c_21, c_23, c_38]
        exact fr_i hx hb hr hlocks hX hC as (congrArg (fun z => some (Value.int z)) (t2_1 hs)) (congrArg (fun z => cct G (pg d kp as un to sc z tp sh) sp) (t2_2 hs)).symm dX0_of_104
      · refine lv_aload_n hx hb dX0_of_96 rfl (lv_at hl 0 rfl) ?_
        refine lv_iload_n hx hb dX0_of_97 rfl (lv_at hl 1 rfl) ?_
        refine fc_V (As := [.int k]) (rest := []) hx hb hml hown hts hX hC (m_X0_strikeOf_6 k hk qk) (lw_V q542 q544 qs5 q108 q545) hdV_X0_strikeOf ⟨rfl, rfl⟩ ⟨Nat.le_of_ble_eq_true rfl, Nat.le_of_ble_eq_true rfl⟩ (fx_recv (g := 5) (i := 0) (ci := 1) (q := (RX0, TX0, 13)) hX hC (cin rfl) rfl rfl) hl.1 rfl (Nat.le_of_ble_eq_true rfl) ⟨Nat.zero_le _, Nat.zero_le _⟩ dX0_of_98 (fun _ H locs hC => ?_)
        refine W.eq (g2 := F0 m 101 ls [.ref (G.ad 26 (ix k))]) rfl ?_
        refine fc_U (C := RX12) (owner := "OwlEars$Strike") (x := ⟨"OwlEars$Strike", "wide", "()I"⟩) (As := []) (rest := []) hx hb hml hown hts hX hC (m_X6_wide_6 (ix k) (vin_lt hk)) (lw5 q679 q682 q687 q680 q117) q695 rfl (by refine ⟨by decide, by decide, ?_⟩; show _ = some 0; decide +kernel) ⟨rfl, rfl⟩ ⟨Nat.le_of_ble_eq_true rfl, Nat.le_of_ble_eq_true rfl⟩ (fx_recv (g := 26) (i := (ix k)) (ci := 12) (q := (RX12, TX12, 4)) hX hC (cin (decide_eq_true (vin_lt hk))) rfl rfl) hl.1 rfl (Nat.le_of_ble_eq_true rfl) ⟨Nat.zero_le _, Nat.zero_le _⟩ dX0_of_101 (fun _ H locs hC => ?_)
        refine W.eq (g2 := F0 m 104 ls [.int 0]) rfl ?_
        have hs : s_of d fd k what = ((0, fd) : Int32 × Row) := by simp [s_of, p_deep, p_wide, qk, c_2, c_3, c_18, c_19, c_20, c_21, c_23, c_38]
        exact fr_i hx hb hr hlocks hX hC as (congrArg (fun z => some (Value.int z)) (t2_1 hs)) (congrArg (fun z => cct G (pg d kp as un to sc z tp sh) sp) (t2_2 hs)).symm dX0_of_104
    by_cases c_53 : what = 7
    · refine lv_tableIn (off := 90) (tgt := 105) hx hb dX0_of_15 (by rw [c_53]; decide) (by rw [c_53]; decide) (by rw [c_53]; rfl) (by decide) ?_
      refine lv_aload_n hx hb dX0_of_105 rfl (lv_at hl 0 rfl) ?_
      refine lv_iload_n hx hb dX0_of_106 rfl (lv_at hl 1 rfl) ?_
      refine fc_VW (As := [.int k]) (rest := []) hx hb hml hown hts hX hC (m_X0_hasIt hw k (kin_of hw c_2)) (lw_VW q696 q698 qs7 q108 q699) hdV_X0_hasIt ⟨rfl, rfl⟩ ⟨Nat.le_of_ble_eq_true rfl, Nat.le_of_ble_eq_true rfl⟩ (fx_recv (g := 5) (i := 0) (ci := 1) (q := (RX0, TX0, 13)) hX hC (cin rfl) rfl rfl) hl.1 rfl (Nat.le_of_ble_eq_true rfl) ⟨Nat.zero_le _, Nat.zero_le _⟩ dX0_of_107 (fun _ H locs hC => ?_)
      refine W.eq (g2 := F0 m 110 ls [.int (b2i (p_has d k))]) rfl ?_
      refine fb_eq (tgt := 117) hx hb dX0_of_110 (by decide) (fun c_55 => ?_) (fun c_55 => ?_)
      · refine lv_iconst (v := 0) hx hb dX0_of_117 rfl ?_
        have hs : s_of d fd k what = ((0, fd) : Int32 × Row) := by rw [s_of, if_pos c_2]; simp [b2i, c_2, c_3, c_18, c_19, c_20, c_21, c_23, c_38, c_53, c_55]
        exact fr_i hx hb hr hlocks hX hC d (congrArg (fun z => some (Value.int z)) (t2_1 hs)) (congrArg (fun z => cct G (pg d kp d un to sc z tp sh) sp) (t2_2 hs)).symm dX0_of_118
      · refine lv_iconst (v := 1) hx hb dX0_of_113 rfl ?_
        refine lv_goto (tgt := 118) hx hb dX0_of_114 (by decide) ?_
        have hs : s_of d fd k what = ((1, fd) : Int32 × Row) := by rw [s_of, if_pos c_2]; simp [b2i, c_2, c_3, c_18, c_19, c_20, c_21, c_23, c_38, c_53, c_55]
        exact fr_i hx hb hr hlocks hX hC d (congrArg (fun z => some (Value.int z)) (t2_1 hs)) (congrArg (fun z => cct G (pg d kp d un to sc z tp sh) sp) (t2_2 hs)).symm dX0_of_118
    refine lv_tableOut (tgt := 119) hx hb dX0_of_15 (tabo 0 8 (by decide) (fun k hk => match k, hk with | 0, _ => c_3 | 1, _ => c_18 | 2, _ => c_19 | 3, _ => c_20 | 4, _ => c_21 | 5, _ => c_23 | 6, _ => c_38 | 7, _ => c_53) rfl) (by decide) ?_
    refine lv_aload_n hx hb dX0_of_119 rfl (lv_at hl 0 rfl) ?_
    refine lv_iconst (v := 0) hx hb dX0_of_120 rfl ?_
    refine fc_V (As := [.int 0]) (rest := []) hx hb hml hown hts hX hC (m_X0_finding 0 (vin_b rfl)) (lw_V q472 q474 qs2 q108 q475) hdV_X0_finding ⟨rfl, rfl⟩ ⟨Nat.le_of_ble_eq_true rfl, Nat.le_of_ble_eq_true rfl⟩ (fx_recv (g := 5) (i := 0) (ci := 1) (q := (RX0, TX0, 13)) hX hC (cin rfl) rfl rfl) hl.1 rfl (Nat.le_of_ble_eq_true rfl) ⟨Nat.zero_le _, Nat.zero_le _⟩ dX0_of_121 (fun _ H locs hC => ?_)
    refine W.eq (g2 := F0 m 124 ls [.int (-1000001)]) rfl ?_
    have hs : s_of d fd k what = (((-1000001), p_find fd 0) : Int32 × Row) := by simp [s_of, c_2, c_3, c_18, c_19, c_20, c_21, c_23, c_38, c_53]
    exact fr_i hx hb hr hlocks hX hC as (congrArg (fun z => some (Value.int z)) (t2_1 hs)) (congrArg (fun z => cct G (pg d kp as un to sc z tp sh) sp) (t2_2 hs)).symm dX0_of_124
  · refine lv_aload_n hx hb dX0_of_8 rfl (lv_at hl 0 rfl) ?_
    refine lv_iconst (v := 0) hx hb dX0_of_9 rfl ?_
    refine fc_V (As := [.int 0]) (rest := []) hx hb hml hown hts hX hC (m_X0_finding 0 (vin_b rfl)) (lw_V q472 q474 qs2 q108 q475) hdV_X0_finding ⟨rfl, rfl⟩ ⟨Nat.le_of_ble_eq_true rfl, Nat.le_of_ble_eq_true rfl⟩ (fx_recv (g := 5) (i := 0) (ci := 1) (q := (RX0, TX0, 13)) hX hC (cin rfl) rfl rfl) hl.1 rfl (Nat.le_of_ble_eq_true rfl) ⟨Nat.zero_le _, Nat.zero_le _⟩ dX0_of_10 (fun _ H locs hC => ?_)
    refine W.eq (g2 := F0 m 13 ls [.int (-1000001)]) rfl ?_
    have hs : s_of d fd k what = (((-1000001), p_find fd 0) : Int32 × Row) := by rw [s_of, if_neg c_2]
    exact fr_i hx hb hr hlocks hX hC as (congrArg (fun z => some (Value.int z)) (t2_1 hs)) (congrArg (fun z => cct G (pg d kp as un to sc z tp sh) sp) (t2_2 hs)).symm dX0_of_13
set_option maxRecDepth 100000 in
theorem m_X0_thingAt_n {l : Launch} {G : Gc} {d kp as un to sc fd tp sh : Row} {sp : Nat → Option Nat} (spot : Int32) (hs : vp_in spot 10) (hn : d (10 + ix spot) = -1) : Cm l yX0_thingAt (ws_ yX0_thingAt cX0_thingAt 3 (some (.object "java/lang/Object"))) ({ frames := 0, cells := 0, slots := 0, locals := 0 }) (cF G) [.ref (G.ad 5 0), .int spot] (cct G (pg d kp as un to sc fd tp sh) sp) (fun _ : Unit => some (.null)) (fun _ => cct G (pg d kp as un to sc fd tp sh) (usp sp (ix spot) none)) := by
  refine Cm.start (by decide) (Nat.le_of_ble_eq_true rfl) ?_
  intro p e s m below meth c hf hX hC ls hl
  obtain ⟨hx, hb, hr, hml, hown, hts, hlocks⟩ := hf
  have hl : lv_has ls 3 [(0, .ref (G.ad 5 0)), (1, .int spot)] := hl
  have hown : s.vm.findClass "OwlEars" = some m.cls := hown
  refine lv_aload_n hx hb dX0_thingAt_0 rfl (lv_at hl 0 rfl) ?_
  refine fg_get (C := RX0) (T := TX0) (N := 13) (ci := 1) (g := 5) (i := 0) (v := .ref (G.ad 0 0)) hx hb hown hts hX hC in_X0 rfl (cin rfl) rfl 3 (by decide) q425 (fun _ h => h) rfl dX0_thingAt_1 ?_
  refine fg_getN (C := RX4) (T := TX4) (N := 9) (ci := 0) (g := 0) (i := 0) (v := .ref (G.ad 0 10)) hx hb hown hts hX hC in_X4 rfl (cin rfl) rfl 8 (by decide) (hX.2.2.1.F q263) (fun _ h => h) rfl dX0_thingAt_4 ?_
  refine lv_iload_n hx hb dX0_thingAt_7 rfl (lv_at hl 1 rfl) ?_
  refine fg_iald (g := 0) (i := 10) (t0 := 0) (v := d (10 + ix spot)) hx hb hX hC (cin rfl) rfl rfl hs rfl dX0_thingAt_8 ?_
  refine lv_istore_n (lv' := [(2, .int (d (10 + ix spot))), (0, .ref (G.ad 5 0)), (1, .int spot)]) hx hb dX0_thingAt_9 rfl hl (by decide) rfl (fun ls hl => ?_)
  refine lv_aload_n hx hb dX0_thingAt_10 rfl (lv_at hl 1 rfl) ?_
  refine fg_get (C := RX0) (T := TX0) (N := 13) (ci := 1) (g := 5) (i := 0) (v := .ref (G.ad 5 6)) hx hb hown hts hX hC in_X0 rfl (cin rfl) rfl 9 (by decide) q431 (fun _ h => h) rfl dX0_thingAt_11 ?_
  refine lv_iload_n hx hb dX0_thingAt_14 rfl (lv_at hl 2 rfl) ?_
  refine fg_ald (g := 5) (i := 6) (t0 := 3) (ty := .object "OwlEars$Slot") (v := .ref (G.ad 8 (ix spot))) hx hb hX hC (cin rfl) rfl rfl rfl hs rfl dX0_thingAt_15 ?_
  refine lv_iload_n hx hb dX0_thingAt_16 rfl (lv_at hl 0 rfl) ?_
  refine lv_iconst (v := (-1)) hx hb dX0_thingAt_17 rfl ?_
  refine lv_icmp_ne (tgt := 25) hx hb dX0_thingAt_18 (by decide) (fun z_1 => absurd hn z_1) (fun _ => ?_)
  refine lv_null hx hb dX0_thingAt_21 ?_
  refine lv_goto (tgt := 30) hx hb dX0_thingAt_22 (by decide) ?_
  refine fg_putN (C := RX5) (T := TX5) (N := 1) (ci := 5) (g := 8) (i := (ix spot)) hx hb hown hts hX hC in_X5 tyX5 tyX5_ok nmX5 rfl (cin (decide_eq_true (vin_lt hs))) rfl 0 (by decide) (hX.2.2.1.F q323) (fun _ h => h) rfl rfl rfl (Nat.le_of_ble_eq_true rfl) (cct G (pg d kp as un to sc fd tp sh) (usp sp (ix spot) none)) cs_sp dX0_thingAt_30 (fun H locs hC => ?_)
  refine lv_aload_n hx hb dX0_thingAt_33 rfl (lv_at hl 1 rfl) ?_
  refine fg_get (C := RX0) (T := TX0) (N := 13) (ci := 1) (g := 5) (i := 0) (v := .ref (G.ad 5 6)) hx hb hown hts hX hC in_X0 rfl (cin rfl) rfl 9 (by decide) q431 (fun _ h => h) rfl dX0_thingAt_34 ?_
  refine lv_iload_n hx hb dX0_thingAt_37 rfl (lv_at hl 2 rfl) ?_
  refine fg_ald (g := 5) (i := 6) (t0 := 3) (ty := .object "OwlEars$Slot") (v := .ref (G.ad 8 (ix spot))) hx hb hX hC (cin rfl) rfl rfl rfl hs rfl dX0_thingAt_38 ?_
  refine fg_getN (C := RX5) (T := TX5) (N := 1) (ci := 5) (g := 8) (i := (ix spot)) (v := .null) hx hb hown hts hX hC in_X5 rfl (cin (decide_eq_true (vin_lt hs))) rfl 0 (by decide) (hX.2.2.1.F q323) (fun _ h => h) (congrArg (fun z => some (va_rf z)) usp_s) dX0_thingAt_39 ?_
  exact fr_a hx hb hr (Or.inl ⟨_, rfl⟩) (Or.inl rfl) hlocks hX hC () rfl rfl dX0_thingAt_42
set_option maxRecDepth 100000 in
theorem m_X0_thingAt_0 {l : Launch} {G : Gc} {d kp as un to sc fd tp sh : Row} {sp : Nat → Option Nat} (spot : Int32) (hs : vp_in spot 10) (hn : ¬ d (10 + ix spot) = -1) (hk : vp_in (d (10 + ix spot)) 8) (qk : d (92 + 4 * ix (d (10 + ix spot))) = 0) : Cm l yX0_thingAt (ws_ yX0_thingAt cX0_thingAt 3 (some (.object "java/lang/Object"))) ({ frames := 1, cells := 0, slots := 0, locals := 21 }) (cF G) [.ref (G.ad 5 0), .int spot] (cct G (pg d kp as un to sc fd tp sh) sp) (fun _ : Unit => some (.ref (G.ad 20 (ix (d (10 + ix spot)))))) (fun _ => cct G (pg d kp as un to sc fd tp sh) (usp sp (ix spot) (some (G.ad 20 (ix (d (10 + ix spot))))))) := by
  refine Cm.start (by decide) (Nat.le_of_ble_eq_true rfl) ?_
  intro p e s m below meth c hf hX hC ls hl
  obtain ⟨hx, hb, hr, hml, hown, hts, hlocks⟩ := hf
  have hl : lv_has ls 3 [(0, .ref (G.ad 5 0)), (1, .int spot)] := hl
  have hown : s.vm.findClass "OwlEars" = some m.cls := hown
  refine lv_aload_n hx hb dX0_thingAt_0 rfl (lv_at hl 0 rfl) ?_
  refine fg_get (C := RX0) (T := TX0) (N := 13) (ci := 1) (g := 5) (i := 0) (v := .ref (G.ad 0 0)) hx hb hown hts hX hC in_X0 rfl (cin rfl) rfl 3 (by decide) q425 (fun _ h => h) rfl dX0_thingAt_1 ?_
  refine fg_getN (C := RX4) (T := TX4) (N := 9) (ci := 0) (g := 0) (i := 0) (v := .ref (G.ad 0 10)) hx hb hown hts hX hC in_X4 rfl (cin rfl) rfl 8 (by decide) (hX.2.2.1.F q263) (fun _ h => h) rfl dX0_thingAt_4 ?_
  refine lv_iload_n hx hb dX0_thingAt_7 rfl (lv_at hl 1 rfl) ?_
  refine fg_iald (g := 0) (i := 10) (t0 := 0) (v := d (10 + ix spot)) hx hb hX hC (cin rfl) rfl rfl hs rfl dX0_thingAt_8 ?_
  refine lv_istore_n (lv' := [(2, .int (d (10 + ix spot))), (0, .ref (G.ad 5 0)), (1, .int spot)]) hx hb dX0_thingAt_9 rfl hl (by decide) rfl (fun ls hl => ?_)
  refine lv_aload_n hx hb dX0_thingAt_10 rfl (lv_at hl 1 rfl) ?_
  refine fg_get (C := RX0) (T := TX0) (N := 13) (ci := 1) (g := 5) (i := 0) (v := .ref (G.ad 5 6)) hx hb hown hts hX hC in_X0 rfl (cin rfl) rfl 9 (by decide) q431 (fun _ h => h) rfl dX0_thingAt_11 ?_
  refine lv_iload_n hx hb dX0_thingAt_14 rfl (lv_at hl 2 rfl) ?_
  refine fg_ald (g := 5) (i := 6) (t0 := 3) (ty := .object "OwlEars$Slot") (v := .ref (G.ad 8 (ix spot))) hx hb hX hC (cin rfl) rfl rfl rfl hs rfl dX0_thingAt_15 ?_
  refine lv_iload_n hx hb dX0_thingAt_16 rfl (lv_at hl 0 rfl) ?_
  refine lv_iconst (v := (-1)) hx hb dX0_thingAt_17 rfl ?_
  refine lv_icmp_ne (tgt := 25) hx hb dX0_thingAt_18 (by decide) (fun _ => ?_) (fun z_1 => absurd z_1 hn)
  refine lv_aload_n hx hb dX0_thingAt_25 rfl (lv_at hl 1 rfl) ?_
  refine lv_iload_n hx hb dX0_thingAt_26 rfl (lv_at hl 0 rfl) ?_
  refine fc_V (As := [.int (d (10 + ix spot))]) (rest := [.ref (G.ad 8 (ix spot))]) hx hb hml hown hts hX hC (m_X0_strikeOf_0 (d (10 + ix spot)) hk qk) (lw_V q542 q544 qs5 q108 q545) hdV_X0_strikeOf ⟨rfl, rfl⟩ ⟨Nat.le_of_ble_eq_true rfl, Nat.le_of_ble_eq_true rfl⟩ (fx_recv (g := 5) (i := 0) (ci := 1) (q := (RX0, TX0, 13)) hX hC (cin rfl) rfl rfl) hl.1 rfl (Nat.le_of_ble_eq_true rfl) ⟨Nat.zero_le _, Nat.zero_le _⟩ dX0_thingAt_27 (fun _ H locs hC => ?_)
  refine W.eq (g2 := F0 m 30 ls [.ref (G.ad 20 (ix (d (10 + ix spot)))), .ref (G.ad 8 (ix spot))]) rfl ?_
  refine fg_putN (C := RX5) (T := TX5) (N := 1) (ci := 5) (g := 8) (i := (ix spot)) hx hb hown hts hX hC in_X5 tyX5 tyX5_ok nmX5 rfl (cin (decide_eq_true (vin_lt hs))) rfl 0 (by decide) (hX.2.2.1.F q323) (fun _ h => h) rfl rfl rfl (Nat.le_of_ble_eq_true rfl) (cct G (pg d kp as un to sc fd tp sh) (usp sp (ix spot) (some (G.ad 20 (ix (d (10 + ix spot))))))) cs_sp dX0_thingAt_30 (fun H locs hC => ?_)
  refine lv_aload_n hx hb dX0_thingAt_33 rfl (lv_at hl 1 rfl) ?_
  refine fg_get (C := RX0) (T := TX0) (N := 13) (ci := 1) (g := 5) (i := 0) (v := .ref (G.ad 5 6)) hx hb hown hts hX hC in_X0 rfl (cin rfl) rfl 9 (by decide) q431 (fun _ h => h) rfl dX0_thingAt_34 ?_
  refine lv_iload_n hx hb dX0_thingAt_37 rfl (lv_at hl 2 rfl) ?_
  refine fg_ald (g := 5) (i := 6) (t0 := 3) (ty := .object "OwlEars$Slot") (v := .ref (G.ad 8 (ix spot))) hx hb hX hC (cin rfl) rfl rfl rfl hs rfl dX0_thingAt_38 ?_
  refine fg_getN (C := RX5) (T := TX5) (N := 1) (ci := 5) (g := 8) (i := (ix spot)) (v := .ref (G.ad 20 (ix (d (10 + ix spot))))) hx hb hown hts hX hC in_X5 rfl (cin (decide_eq_true (vin_lt hs))) rfl 0 (by decide) (hX.2.2.1.F q323) (fun _ h => h) (congrArg (fun z => some (va_rf z)) usp_s) dX0_thingAt_39 ?_
  exact fr_a hx hb hr (Or.inl ⟨_, rfl⟩) (Or.inr ⟨_, rfl⟩) hlocks hX hC () rfl rfl dX0_thingAt_42
set_option maxRecDepth 100000 in
theorem m_X0_thingAt_1 {l : Launch} {G : Gc} {d kp as un to sc fd tp sh : Row} {sp : Nat → Option Nat} (spot : Int32) (hs : vp_in spot 10) (hn : ¬ d (10 + ix spot) = -1) (hk : vp_in (d (10 + ix spot)) 8) (qk : d (92 + 4 * ix (d (10 + ix spot))) = 1) : Cm l yX0_thingAt (ws_ yX0_thingAt cX0_thingAt 3 (some (.object "java/lang/Object"))) ({ frames := 1, cells := 0, slots := 0, locals := 21 }) (cF G) [.ref (G.ad 5 0), .int spot] (cct G (pg d kp as un to sc fd tp sh) sp) (fun _ : Unit => some (.ref (G.ad 21 (ix (d (10 + ix spot)))))) (fun _ => cct G (pg d kp as un to sc fd tp sh) (usp sp (ix spot) (some (G.ad 21 (ix (d (10 + ix spot))))))) := by
  refine Cm.start (by decide) (Nat.le_of_ble_eq_true rfl) ?_
  intro p e s m below meth c hf hX hC ls hl
  obtain ⟨hx, hb, hr, hml, hown, hts, hlocks⟩ := hf
  have hl : lv_has ls 3 [(0, .ref (G.ad 5 0)), (1, .int spot)] := hl
  have hown : s.vm.findClass "OwlEars" = some m.cls := hown
  refine lv_aload_n hx hb dX0_thingAt_0 rfl (lv_at hl 0 rfl) ?_
  refine fg_get (C := RX0) (T := TX0) (N := 13) (ci := 1) (g := 5) (i := 0) (v := .ref (G.ad 0 0)) hx hb hown hts hX hC in_X0 rfl (cin rfl) rfl 3 (by decide) q425 (fun _ h => h) rfl dX0_thingAt_1 ?_
  refine fg_getN (C := RX4) (T := TX4) (N := 9) (ci := 0) (g := 0) (i := 0) (v := .ref (G.ad 0 10)) hx hb hown hts hX hC in_X4 rfl (cin rfl) rfl 8 (by decide) (hX.2.2.1.F q263) (fun _ h => h) rfl dX0_thingAt_4 ?_
  refine lv_iload_n hx hb dX0_thingAt_7 rfl (lv_at hl 1 rfl) ?_
  refine fg_iald (g := 0) (i := 10) (t0 := 0) (v := d (10 + ix spot)) hx hb hX hC (cin rfl) rfl rfl hs rfl dX0_thingAt_8 ?_
  refine lv_istore_n (lv' := [(2, .int (d (10 + ix spot))), (0, .ref (G.ad 5 0)), (1, .int spot)]) hx hb dX0_thingAt_9 rfl hl (by decide) rfl (fun ls hl => ?_)
  refine lv_aload_n hx hb dX0_thingAt_10 rfl (lv_at hl 1 rfl) ?_
  refine fg_get (C := RX0) (T := TX0) (N := 13) (ci := 1) (g := 5) (i := 0) (v := .ref (G.ad 5 6)) hx hb hown hts hX hC in_X0 rfl (cin rfl) rfl 9 (by decide) q431 (fun _ h => h) rfl dX0_thingAt_11 ?_
  refine lv_iload_n hx hb dX0_thingAt_14 rfl (lv_at hl 2 rfl) ?_
  refine fg_ald (g := 5) (i := 6) (t0 := 3) (ty := .object "OwlEars$Slot") (v := .ref (G.ad 8 (ix spot))) hx hb hX hC (cin rfl) rfl rfl rfl hs rfl dX0_thingAt_15 ?_
  refine lv_iload_n hx hb dX0_thingAt_16 rfl (lv_at hl 0 rfl) ?_
  refine lv_iconst (v := (-1)) hx hb dX0_thingAt_17 rfl ?_
  refine lv_icmp_ne (tgt := 25) hx hb dX0_thingAt_18 (by decide) (fun _ => ?_) (fun z_1 => absurd z_1 hn)
  refine lv_aload_n hx hb dX0_thingAt_25 rfl (lv_at hl 1 rfl) ?_
  refine lv_iload_n hx hb dX0_thingAt_26 rfl (lv_at hl 0 rfl) ?_
  refine fc_V (As := [.int (d (10 + ix spot))]) (rest := [.ref (G.ad 8 (ix spot))]) hx hb hml hown hts hX hC (m_X0_strikeOf_1 (d (10 + ix spot)) hk qk) (lw_V q542 q544 qs5 q108 q545) hdV_X0_strikeOf ⟨rfl, rfl⟩ ⟨Nat.le_of_ble_eq_true rfl, Nat.le_of_ble_eq_true rfl⟩ (fx_recv (g := 5) (i := 0) (ci := 1) (q := (RX0, TX0, 13)) hX hC (cin rfl) rfl rfl) hl.1 rfl (Nat.le_of_ble_eq_true rfl) ⟨Nat.zero_le _, Nat.zero_le _⟩ dX0_thingAt_27 (fun _ H locs hC => ?_)
  refine W.eq (g2 := F0 m 30 ls [.ref (G.ad 21 (ix (d (10 + ix spot)))), .ref (G.ad 8 (ix spot))]) rfl ?_
  refine fg_putN (C := RX5) (T := TX5) (N := 1) (ci := 5) (g := 8) (i := (ix spot)) hx hb hown hts hX hC in_X5 tyX5 tyX5_ok nmX5 rfl (cin (decide_eq_true (vin_lt hs))) rfl 0 (by decide) (hX.2.2.1.F q323) (fun _ h => h) rfl rfl rfl (Nat.le_of_ble_eq_true rfl) (cct G (pg d kp as un to sc fd tp sh) (usp sp (ix spot) (some (G.ad 21 (ix (d (10 + ix spot))))))) cs_sp dX0_thingAt_30 (fun H locs hC => ?_)
  refine lv_aload_n hx hb dX0_thingAt_33 rfl (lv_at hl 1 rfl) ?_
  refine fg_get (C := RX0) (T := TX0) (N := 13) (ci := 1) (g := 5) (i := 0) (v := .ref (G.ad 5 6)) hx hb hown hts hX hC in_X0 rfl (cin rfl) rfl 9 (by decide) q431 (fun _ h => h) rfl dX0_thingAt_34 ?_
  refine lv_iload_n hx hb dX0_thingAt_37 rfl (lv_at hl 2 rfl) ?_
  refine fg_ald (g := 5) (i := 6) (t0 := 3) (ty := .object "OwlEars$Slot") (v := .ref (G.ad 8 (ix spot))) hx hb hX hC (cin rfl) rfl rfl rfl hs rfl dX0_thingAt_38 ?_
  refine fg_getN (C := RX5) (T := TX5) (N := 1) (ci := 5) (g := 8) (i := (ix spot)) (v := .ref (G.ad 21 (ix (d (10 + ix spot))))) hx hb hown hts hX hC in_X5 rfl (cin (decide_eq_true (vin_lt hs))) rfl 0 (by decide) (hX.2.2.1.F q323) (fun _ h => h) (congrArg (fun z => some (va_rf z)) usp_s) dX0_thingAt_39 ?_
  exact fr_a hx hb hr (Or.inl ⟨_, rfl⟩) (Or.inr ⟨_, rfl⟩) hlocks hX hC () rfl rfl dX0_thingAt_42
set_option maxRecDepth 100000 in
theorem m_X0_thingAt_2 {l : Launch} {G : Gc} {d kp as un to sc fd tp sh : Row} {sp : Nat → Option Nat} (spot : Int32) (hs : vp_in spot 10) (hn : ¬ d (10 + ix spot) = -1) (hk : vp_in (d (10 + ix spot)) 8) (qk : d (92 + 4 * ix (d (10 + ix spot))) = 2) : Cm l yX0_thingAt (ws_ yX0_thingAt cX0_thingAt 3 (some (.object "java/lang/Object"))) ({ frames := 1, cells := 0, slots := 0, locals := 21 }) (cF G) [.ref (G.ad 5 0), .int spot] (cct G (pg d kp as un to sc fd tp sh) sp) (fun _ : Unit => some (.ref (G.ad 22 (ix (d (10 + ix spot)))))) (fun _ => cct G (pg d kp as un to sc fd tp sh) (usp sp (ix spot) (some (G.ad 22 (ix (d (10 + ix spot))))))) := by
  refine Cm.start (by decide) (Nat.le_of_ble_eq_true rfl) ?_
  intro p e s m below meth c hf hX hC ls hl
  obtain ⟨hx, hb, hr, hml, hown, hts, hlocks⟩ := hf
  have hl : lv_has ls 3 [(0, .ref (G.ad 5 0)), (1, .int spot)] := hl
  have hown : s.vm.findClass "OwlEars" = some m.cls := hown
  refine lv_aload_n hx hb dX0_thingAt_0 rfl (lv_at hl 0 rfl) ?_
  refine fg_get (C := RX0) (T := TX0) (N := 13) (ci := 1) (g := 5) (i := 0) (v := .ref (G.ad 0 0)) hx hb hown hts hX hC in_X0 rfl (cin rfl) rfl 3 (by decide) q425 (fun _ h => h) rfl dX0_thingAt_1 ?_
  refine fg_getN (C := RX4) (T := TX4) (N := 9) (ci := 0) (g := 0) (i := 0) (v := .ref (G.ad 0 10)) hx hb hown hts hX hC in_X4 rfl (cin rfl) rfl 8 (by decide) (hX.2.2.1.F q263) (fun _ h => h) rfl dX0_thingAt_4 ?_
  refine lv_iload_n hx hb dX0_thingAt_7 rfl (lv_at hl 1 rfl) ?_
  refine fg_iald (g := 0) (i := 10) (t0 := 0) (v := d (10 + ix spot)) hx hb hX hC (cin rfl) rfl rfl hs rfl dX0_thingAt_8 ?_
  refine lv_istore_n (lv' := [(2, .int (d (10 + ix spot))), (0, .ref (G.ad 5 0)), (1, .int spot)]) hx hb dX0_thingAt_9 rfl hl (by decide) rfl (fun ls hl => ?_)
  refine lv_aload_n hx hb dX0_thingAt_10 rfl (lv_at hl 1 rfl) ?_
  refine fg_get (C := RX0) (T := TX0) (N := 13) (ci := 1) (g := 5) (i := 0) (v := .ref (G.ad 5 6)) hx hb hown hts hX hC in_X0 rfl (cin rfl) rfl 9 (by decide) q431 (fun _ h => h) rfl dX0_thingAt_11 ?_
  refine lv_iload_n hx hb dX0_thingAt_14 rfl (lv_at hl 2 rfl) ?_
  refine fg_ald (g := 5) (i := 6) (t0 := 3) (ty := .object "OwlEars$Slot") (v := .ref (G.ad 8 (ix spot))) hx hb hX hC (cin rfl) rfl rfl rfl hs rfl dX0_thingAt_15 ?_
  refine lv_iload_n hx hb dX0_thingAt_16 rfl (lv_at hl 0 rfl) ?_
  refine lv_iconst (v := (-1)) hx hb dX0_thingAt_17 rfl ?_
  refine lv_icmp_ne (tgt := 25) hx hb dX0_thingAt_18 (by decide) (fun _ => ?_) (fun z_1 => absurd z_1 hn)
  refine lv_aload_n hx hb dX0_thingAt_25 rfl (lv_at hl 1 rfl) ?_
  refine lv_iload_n hx hb dX0_thingAt_26 rfl (lv_at hl 0 rfl) ?_
  refine fc_V (As := [.int (d (10 + ix spot))]) (rest := [.ref (G.ad 8 (ix spot))]) hx hb hml hown hts hX hC (m_X0_strikeOf_2 (d (10 + ix spot)) hk qk) (lw_V q542 q544 qs5 q108 q545) hdV_X0_strikeOf ⟨rfl, rfl⟩ ⟨Nat.le_of_ble_eq_true rfl, Nat.le_of_ble_eq_true rfl⟩ (fx_recv (g := 5) (i := 0) (ci := 1) (q := (RX0, TX0, 13)) hX hC (cin rfl) rfl rfl) hl.1 rfl (Nat.le_of_ble_eq_true rfl) ⟨Nat.zero_le _, Nat.zero_le _⟩ dX0_thingAt_27 (fun _ H locs hC => ?_)
  refine W.eq (g2 := F0 m 30 ls [.ref (G.ad 22 (ix (d (10 + ix spot)))), .ref (G.ad 8 (ix spot))]) rfl ?_
  refine fg_putN (C := RX5) (T := TX5) (N := 1) (ci := 5) (g := 8) (i := (ix spot)) hx hb hown hts hX hC in_X5 tyX5 tyX5_ok nmX5 rfl (cin (decide_eq_true (vin_lt hs))) rfl 0 (by decide) (hX.2.2.1.F q323) (fun _ h => h) rfl rfl rfl (Nat.le_of_ble_eq_true rfl) (cct G (pg d kp as un to sc fd tp sh) (usp sp (ix spot) (some (G.ad 22 (ix (d (10 + ix spot))))))) cs_sp dX0_thingAt_30 (fun H locs hC => ?_)
  refine lv_aload_n hx hb dX0_thingAt_33 rfl (lv_at hl 1 rfl) ?_
  refine fg_get (C := RX0) (T := TX0) (N := 13) (ci := 1) (g := 5) (i := 0) (v := .ref (G.ad 5 6)) hx hb hown hts hX hC in_X0 rfl (cin rfl) rfl 9 (by decide) q431 (fun _ h => h) rfl dX0_thingAt_34 ?_
  refine lv_iload_n hx hb dX0_thingAt_37 rfl (lv_at hl 2 rfl) ?_
  refine fg_ald (g := 5) (i := 6) (t0 := 3) (ty := .object "OwlEars$Slot") (v := .ref (G.ad 8 (ix spot))) hx hb hX hC (cin rfl) rfl rfl rfl hs rfl dX0_thingAt_38 ?_
  refine fg_getN (C := RX5) (T := TX5) (N := 1) (ci := 5) (g := 8) (i := (ix spot)) (v := .ref (G.ad 22 (ix (d (10 + ix spot))))) hx hb hown hts hX hC in_X5 rfl (cin (decide_eq_true (vin_lt hs))) rfl 0 (by decide) (hX.2.2.1.F q323) (fun _ h => h) (congrArg (fun z => some (va_rf z)) usp_s) dX0_thingAt_39 ?_
  exact fr_a hx hb hr (Or.inl ⟨_, rfl⟩) (Or.inr ⟨_, rfl⟩) hlocks hX hC () rfl rfl dX0_thingAt_42
set_option maxRecDepth 100000 in
theorem m_X0_thingAt_3 {l : Launch} {G : Gc} {d kp as un to sc fd tp sh : Row} {sp : Nat → Option Nat} (spot : Int32) (hs : vp_in spot 10) (hn : ¬ d (10 + ix spot) = -1) (hk : vp_in (d (10 + ix spot)) 8) (qk : d (92 + 4 * ix (d (10 + ix spot))) = 3) : Cm l yX0_thingAt (ws_ yX0_thingAt cX0_thingAt 3 (some (.object "java/lang/Object"))) ({ frames := 1, cells := 0, slots := 0, locals := 21 }) (cF G) [.ref (G.ad 5 0), .int spot] (cct G (pg d kp as un to sc fd tp sh) sp) (fun _ : Unit => some (.ref (G.ad 23 (ix (d (10 + ix spot)))))) (fun _ => cct G (pg d kp as un to sc fd tp sh) (usp sp (ix spot) (some (G.ad 23 (ix (d (10 + ix spot))))))) := by
  refine Cm.start (by decide) (Nat.le_of_ble_eq_true rfl) ?_
  intro p e s m below meth c hf hX hC ls hl
  obtain ⟨hx, hb, hr, hml, hown, hts, hlocks⟩ := hf
  have hl : lv_has ls 3 [(0, .ref (G.ad 5 0)), (1, .int spot)] := hl
  have hown : s.vm.findClass "OwlEars" = some m.cls := hown
  refine lv_aload_n hx hb dX0_thingAt_0 rfl (lv_at hl 0 rfl) ?_
  refine fg_get (C := RX0) (T := TX0) (N := 13) (ci := 1) (g := 5) (i := 0) (v := .ref (G.ad 0 0)) hx hb hown hts hX hC in_X0 rfl (cin rfl) rfl 3 (by decide) q425 (fun _ h => h) rfl dX0_thingAt_1 ?_
  refine fg_getN (C := RX4) (T := TX4) (N := 9) (ci := 0) (g := 0) (i := 0) (v := .ref (G.ad 0 10)) hx hb hown hts hX hC in_X4 rfl (cin rfl) rfl 8 (by decide) (hX.2.2.1.F q263) (fun _ h => h) rfl dX0_thingAt_4 ?_
  refine lv_iload_n hx hb dX0_thingAt_7 rfl (lv_at hl 1 rfl) ?_
  refine fg_iald (g := 0) (i := 10) (t0 := 0) (v := d (10 + ix spot)) hx hb hX hC (cin rfl) rfl rfl hs rfl dX0_thingAt_8 ?_
  refine lv_istore_n (lv' := [(2, .int (d (10 + ix spot))), (0, .ref (G.ad 5 0)), (1, .int spot)]) hx hb dX0_thingAt_9 rfl hl (by decide) rfl (fun ls hl => ?_)
  refine lv_aload_n hx hb dX0_thingAt_10 rfl (lv_at hl 1 rfl) ?_
  refine fg_get (C := RX0) (T := TX0) (N := 13) (ci := 1) (g := 5) (i := 0) (v := .ref (G.ad 5 6)) hx hb hown hts hX hC in_X0 rfl (cin rfl) rfl 9 (by decide) q431 (fun _ h => h) rfl dX0_thingAt_11 ?_
  refine lv_iload_n hx hb dX0_thingAt_14 rfl (lv_at hl 2 rfl) ?_
  refine fg_ald (g := 5) (i := 6) (t0 := 3) (ty := .object "OwlEars$Slot") (v := .ref (G.ad 8 (ix spot))) hx hb hX hC (cin rfl) rfl rfl rfl hs rfl dX0_thingAt_15 ?_
  refine lv_iload_n hx hb dX0_thingAt_16 rfl (lv_at hl 0 rfl) ?_
  refine lv_iconst (v := (-1)) hx hb dX0_thingAt_17 rfl ?_
  refine lv_icmp_ne (tgt := 25) hx hb dX0_thingAt_18 (by decide) (fun _ => ?_) (fun z_1 => absurd z_1 hn)
  refine lv_aload_n hx hb dX0_thingAt_25 rfl (lv_at hl 1 rfl) ?_
  refine lv_iload_n hx hb dX0_thingAt_26 rfl (lv_at hl 0 rfl) ?_
  refine fc_V (As := [.int (d (10 + ix spot))]) (rest := [.ref (G.ad 8 (ix spot))]) hx hb hml hown hts hX hC (m_X0_strikeOf_3 (d (10 + ix spot)) hk qk) (lw_V q542 q544 qs5 q108 q545) hdV_X0_strikeOf ⟨rfl, rfl⟩ ⟨Nat.le_of_ble_eq_true rfl, Nat.le_of_ble_eq_true rfl⟩ (fx_recv (g := 5) (i := 0) (ci := 1) (q := (RX0, TX0, 13)) hX hC (cin rfl) rfl rfl) hl.1 rfl (Nat.le_of_ble_eq_true rfl) ⟨Nat.zero_le _, Nat.zero_le _⟩ dX0_thingAt_27 (fun _ H locs hC => ?_)
  refine W.eq (g2 := F0 m 30 ls [.ref (G.ad 23 (ix (d (10 + ix spot)))), .ref (G.ad 8 (ix spot))]) rfl ?_
  refine fg_putN (C := RX5) (T := TX5) (N := 1) (ci := 5) (g := 8) (i := (ix spot)) hx hb hown hts hX hC in_X5 tyX5 tyX5_ok nmX5 rfl (cin (decide_eq_true (vin_lt hs))) rfl 0 (by decide) (hX.2.2.1.F q323) (fun _ h => h) rfl rfl rfl (Nat.le_of_ble_eq_true rfl) (cct G (pg d kp as un to sc fd tp sh) (usp sp (ix spot) (some (G.ad 23 (ix (d (10 + ix spot))))))) cs_sp dX0_thingAt_30 (fun H locs hC => ?_)
  refine lv_aload_n hx hb dX0_thingAt_33 rfl (lv_at hl 1 rfl) ?_
  refine fg_get (C := RX0) (T := TX0) (N := 13) (ci := 1) (g := 5) (i := 0) (v := .ref (G.ad 5 6)) hx hb hown hts hX hC in_X0 rfl (cin rfl) rfl 9 (by decide) q431 (fun _ h => h) rfl dX0_thingAt_34 ?_
  refine lv_iload_n hx hb dX0_thingAt_37 rfl (lv_at hl 2 rfl) ?_
  refine fg_ald (g := 5) (i := 6) (t0 := 3) (ty := .object "OwlEars$Slot") (v := .ref (G.ad 8 (ix spot))) hx hb hX hC (cin rfl) rfl rfl rfl hs rfl dX0_thingAt_38 ?_
  refine fg_getN (C := RX5) (T := TX5) (N := 1) (ci := 5) (g := 8) (i := (ix spot)) (v := .ref (G.ad 23 (ix (d (10 + ix spot))))) hx hb hown hts hX hC in_X5 rfl (cin (decide_eq_true (vin_lt hs))) rfl 0 (by decide) (hX.2.2.1.F q323) (fun _ h => h) (congrArg (fun z => some (va_rf z)) usp_s) dX0_thingAt_39 ?_
  exact fr_a hx hb hr (Or.inl ⟨_, rfl⟩) (Or.inr ⟨_, rfl⟩) hlocks hX hC () rfl rfl dX0_thingAt_42
set_option maxRecDepth 100000 in
theorem m_X0_thingAt_4 {l : Launch} {G : Gc} {d kp as un to sc fd tp sh : Row} {sp : Nat → Option Nat} (spot : Int32) (hs : vp_in spot 10) (hn : ¬ d (10 + ix spot) = -1) (hk : vp_in (d (10 + ix spot)) 8) (qk : d (92 + 4 * ix (d (10 + ix spot))) = 4) : Cm l yX0_thingAt (ws_ yX0_thingAt cX0_thingAt 3 (some (.object "java/lang/Object"))) ({ frames := 1, cells := 0, slots := 0, locals := 21 }) (cF G) [.ref (G.ad 5 0), .int spot] (cct G (pg d kp as un to sc fd tp sh) sp) (fun _ : Unit => some (.ref (G.ad 24 (ix (d (10 + ix spot)))))) (fun _ => cct G (pg d kp as un to sc fd tp sh) (usp sp (ix spot) (some (G.ad 24 (ix (d (10 + ix spot))))))) := by
  refine Cm.start (by decide) (Nat.le_of_ble_eq_true rfl) ?_
  intro p e s m below meth c hf hX hC ls hl
  obtain ⟨hx, hb, hr, hml, hown, hts, hlocks⟩ := hf
  have hl : lv_has ls 3 [(0, .ref (G.ad 5 0)), (1, .int spot)] := hl
  have hown : s.vm.findClass "OwlEars" = some m.cls := hown
  refine lv_aload_n hx hb dX0_thingAt_0 rfl (lv_at hl 0 rfl) ?_
  refine fg_get (C := RX0) (T := TX0) (N := 13) (ci := 1) (g := 5) (i := 0) (v := .ref (G.ad 0 0)) hx hb hown hts hX hC in_X0 rfl (cin rfl) rfl 3 (by decide) q425 (fun _ h => h) rfl dX0_thingAt_1 ?_
  refine fg_getN (C := RX4) (T := TX4) (N := 9) (ci := 0) (g := 0) (i := 0) (v := .ref (G.ad 0 10)) hx hb hown hts hX hC in_X4 rfl (cin rfl) rfl 8 (by decide) (hX.2.2.1.F q263) (fun _ h => h) rfl dX0_thingAt_4 ?_
  refine lv_iload_n hx hb dX0_thingAt_7 rfl (lv_at hl 1 rfl) ?_
  refine fg_iald (g := 0) (i := 10) (t0 := 0) (v := d (10 + ix spot)) hx hb hX hC (cin rfl) rfl rfl hs rfl dX0_thingAt_8 ?_
  refine lv_istore_n (lv' := [(2, .int (d (10 + ix spot))), (0, .ref (G.ad 5 0)), (1, .int spot)]) hx hb dX0_thingAt_9 rfl hl (by decide) rfl (fun ls hl => ?_)
  refine lv_aload_n hx hb dX0_thingAt_10 rfl (lv_at hl 1 rfl) ?_
  refine fg_get (C := RX0) (T := TX0) (N := 13) (ci := 1) (g := 5) (i := 0) (v := .ref (G.ad 5 6)) hx hb hown hts hX hC in_X0 rfl (cin rfl) rfl 9 (by decide) q431 (fun _ h => h) rfl dX0_thingAt_11 ?_
  refine lv_iload_n hx hb dX0_thingAt_14 rfl (lv_at hl 2 rfl) ?_
  refine fg_ald (g := 5) (i := 6) (t0 := 3) (ty := .object "OwlEars$Slot") (v := .ref (G.ad 8 (ix spot))) hx hb hX hC (cin rfl) rfl rfl rfl hs rfl dX0_thingAt_15 ?_
  refine lv_iload_n hx hb dX0_thingAt_16 rfl (lv_at hl 0 rfl) ?_
  refine lv_iconst (v := (-1)) hx hb dX0_thingAt_17 rfl ?_
  refine lv_icmp_ne (tgt := 25) hx hb dX0_thingAt_18 (by decide) (fun _ => ?_) (fun z_1 => absurd z_1 hn)
  refine lv_aload_n hx hb dX0_thingAt_25 rfl (lv_at hl 1 rfl) ?_
  refine lv_iload_n hx hb dX0_thingAt_26 rfl (lv_at hl 0 rfl) ?_
  refine fc_V (As := [.int (d (10 + ix spot))]) (rest := [.ref (G.ad 8 (ix spot))]) hx hb hml hown hts hX hC (m_X0_strikeOf_4 (d (10 + ix spot)) hk qk) (lw_V q542 q544 qs5 q108 q545) hdV_X0_strikeOf ⟨rfl, rfl⟩ ⟨Nat.le_of_ble_eq_true rfl, Nat.le_of_ble_eq_true rfl⟩ (fx_recv (g := 5) (i := 0) (ci := 1) (q := (RX0, TX0, 13)) hX hC (cin rfl) rfl rfl) hl.1 rfl (Nat.le_of_ble_eq_true rfl) ⟨Nat.zero_le _, Nat.zero_le _⟩ dX0_thingAt_27 (fun _ H locs hC => ?_)
  refine W.eq (g2 := F0 m 30 ls [.ref (G.ad 24 (ix (d (10 + ix spot)))), .ref (G.ad 8 (ix spot))]) rfl ?_
  refine fg_putN (C := RX5) (T := TX5) (N := 1) (ci := 5) (g := 8) (i := (ix spot)) hx hb hown hts hX hC in_X5 tyX5 tyX5_ok nmX5 rfl (cin (decide_eq_true (vin_lt hs))) rfl 0 (by decide) (hX.2.2.1.F q323) (fun _ h => h) rfl rfl rfl (Nat.le_of_ble_eq_true rfl) (cct G (pg d kp as un to sc fd tp sh) (usp sp (ix spot) (some (G.ad 24 (ix (d (10 + ix spot))))))) cs_sp dX0_thingAt_30 (fun H locs hC => ?_)
  refine lv_aload_n hx hb dX0_thingAt_33 rfl (lv_at hl 1 rfl) ?_
  refine fg_get (C := RX0) (T := TX0) (N := 13) (ci := 1) (g := 5) (i := 0) (v := .ref (G.ad 5 6)) hx hb hown hts hX hC in_X0 rfl (cin rfl) rfl 9 (by decide) q431 (fun _ h => h) rfl dX0_thingAt_34 ?_
  refine lv_iload_n hx hb dX0_thingAt_37 rfl (lv_at hl 2 rfl) ?_
  refine fg_ald (g := 5) (i := 6) (t0 := 3) (ty := .object "OwlEars$Slot") (v := .ref (G.ad 8 (ix spot))) hx hb hX hC (cin rfl) rfl rfl rfl hs rfl dX0_thingAt_38 ?_
  refine fg_getN (C := RX5) (T := TX5) (N := 1) (ci := 5) (g := 8) (i := (ix spot)) (v := .ref (G.ad 24 (ix (d (10 + ix spot))))) hx hb hown hts hX hC in_X5 rfl (cin (decide_eq_true (vin_lt hs))) rfl 0 (by decide) (hX.2.2.1.F q323) (fun _ h => h) (congrArg (fun z => some (va_rf z)) usp_s) dX0_thingAt_39 ?_
  exact fr_a hx hb hr (Or.inl ⟨_, rfl⟩) (Or.inr ⟨_, rfl⟩) hlocks hX hC () rfl rfl dX0_thingAt_42
set_option maxRecDepth 100000 in
theorem m_X0_thingAt_5 {l : Launch} {G : Gc} {d kp as un to sc fd tp sh : Row} {sp : Nat → Option Nat} (spot : Int32) (hs : vp_in spot 10) (hn : ¬ d (10 + ix spot) = -1) (hk : vp_in (d (10 + ix spot)) 8) (qk : d (92 + 4 * ix (d (10 + ix spot))) = 5) : Cm l yX0_thingAt (ws_ yX0_thingAt cX0_thingAt 3 (some (.object "java/lang/Object"))) ({ frames := 1, cells := 0, slots := 0, locals := 21 }) (cF G) [.ref (G.ad 5 0), .int spot] (cct G (pg d kp as un to sc fd tp sh) sp) (fun _ : Unit => some (.ref (G.ad 25 (ix (d (10 + ix spot)))))) (fun _ => cct G (pg d kp as un to sc fd tp sh) (usp sp (ix spot) (some (G.ad 25 (ix (d (10 + ix spot))))))) := by
  refine Cm.start (by decide) (Nat.le_of_ble_eq_true rfl) ?_
  intro p e s m below meth c hf hX hC ls hl
  obtain ⟨hx, hb, hr, hml, hown, hts, hlocks⟩ := hf
  have hl : lv_has ls 3 [(0, .ref (G.ad 5 0)), (1, .int spot)] := hl
  have hown : s.vm.findClass "OwlEars" = some m.cls := hown
  refine lv_aload_n hx hb dX0_thingAt_0 rfl (lv_at hl 0 rfl) ?_
  refine fg_get (C := RX0) (T := TX0) (N := 13) (ci := 1) (g := 5) (i := 0) (v := .ref (G.ad 0 0)) hx hb hown hts hX hC in_X0 rfl (cin rfl) rfl 3 (by decide) q425 (fun _ h => h) rfl dX0_thingAt_1 ?_
  refine fg_getN (C := RX4) (T := TX4) (N := 9) (ci := 0) (g := 0) (i := 0) (v := .ref (G.ad 0 10)) hx hb hown hts hX hC in_X4 rfl (cin rfl) rfl 8 (by decide) (hX.2.2.1.F q263) (fun _ h => h) rfl dX0_thingAt_4 ?_
  refine lv_iload_n hx hb dX0_thingAt_7 rfl (lv_at hl 1 rfl) ?_
  refine fg_iald (g := 0) (i := 10) (t0 := 0) (v := d (10 + ix spot)) hx hb hX hC (cin rfl) rfl rfl hs rfl dX0_thingAt_8 ?_
  refine lv_istore_n (lv' := [(2, .int (d (10 + ix spot))), (0, .ref (G.ad 5 0)), (1, .int spot)]) hx hb dX0_thingAt_9 rfl hl (by decide) rfl (fun ls hl => ?_)
  refine lv_aload_n hx hb dX0_thingAt_10 rfl (lv_at hl 1 rfl) ?_
  refine fg_get (C := RX0) (T := TX0) (N := 13) (ci := 1) (g := 5) (i := 0) (v := .ref (G.ad 5 6)) hx hb hown hts hX hC in_X0 rfl (cin rfl) rfl 9 (by decide) q431 (fun _ h => h) rfl dX0_thingAt_11 ?_
  refine lv_iload_n hx hb dX0_thingAt_14 rfl (lv_at hl 2 rfl) ?_
  refine fg_ald (g := 5) (i := 6) (t0 := 3) (ty := .object "OwlEars$Slot") (v := .ref (G.ad 8 (ix spot))) hx hb hX hC (cin rfl) rfl rfl rfl hs rfl dX0_thingAt_15 ?_
  refine lv_iload_n hx hb dX0_thingAt_16 rfl (lv_at hl 0 rfl) ?_
  refine lv_iconst (v := (-1)) hx hb dX0_thingAt_17 rfl ?_
  refine lv_icmp_ne (tgt := 25) hx hb dX0_thingAt_18 (by decide) (fun _ => ?_) (fun z_1 => absurd z_1 hn)
  refine lv_aload_n hx hb dX0_thingAt_25 rfl (lv_at hl 1 rfl) ?_
  refine lv_iload_n hx hb dX0_thingAt_26 rfl (lv_at hl 0 rfl) ?_
  refine fc_V (As := [.int (d (10 + ix spot))]) (rest := [.ref (G.ad 8 (ix spot))]) hx hb hml hown hts hX hC (m_X0_strikeOf_5 (d (10 + ix spot)) hk qk) (lw_V q542 q544 qs5 q108 q545) hdV_X0_strikeOf ⟨rfl, rfl⟩ ⟨Nat.le_of_ble_eq_true rfl, Nat.le_of_ble_eq_true rfl⟩ (fx_recv (g := 5) (i := 0) (ci := 1) (q := (RX0, TX0, 13)) hX hC (cin rfl) rfl rfl) hl.1 rfl (Nat.le_of_ble_eq_true rfl) ⟨Nat.zero_le _, Nat.zero_le _⟩ dX0_thingAt_27 (fun _ H locs hC => ?_)
  refine W.eq (g2 := F0 m 30 ls [.ref (G.ad 25 (ix (d (10 + ix spot)))), .ref (G.ad 8 (ix spot))]) rfl ?_
  refine fg_putN (C := RX5) (T := TX5) (N := 1) (ci := 5) (g := 8) (i := (ix spot)) hx hb hown hts hX hC in_X5 tyX5 tyX5_ok nmX5 rfl (cin (decide_eq_true (vin_lt hs))) rfl 0 (by decide) (hX.2.2.1.F q323) (fun _ h => h) rfl rfl rfl (Nat.le_of_ble_eq_true rfl) (cct G (pg d kp as un to sc fd tp sh) (usp sp (ix spot) (some (G.ad 25 (ix (d (10 + ix spot))))))) cs_sp dX0_thingAt_30 (fun H locs hC => ?_)
  refine lv_aload_n hx hb dX0_thingAt_33 rfl (lv_at hl 1 rfl) ?_
  refine fg_get (C := RX0) (T := TX0) (N := 13) (ci := 1) (g := 5) (i := 0) (v := .ref (G.ad 5 6)) hx hb hown hts hX hC in_X0 rfl (cin rfl) rfl 9 (by decide) q431 (fun _ h => h) rfl dX0_thingAt_34 ?_
  refine lv_iload_n hx hb dX0_thingAt_37 rfl (lv_at hl 2 rfl) ?_
  refine fg_ald (g := 5) (i := 6) (t0 := 3) (ty := .object "OwlEars$Slot") (v := .ref (G.ad 8 (ix spot))) hx hb hX hC (cin rfl) rfl rfl rfl hs rfl dX0_thingAt_38 ?_
  refine fg_getN (C := RX5) (T := TX5) (N := 1) (ci := 5) (g := 8) (i := (ix spot)) (v := .ref (G.ad 25 (ix (d (10 + ix spot))))) hx hb hown hts hX hC in_X5 rfl (cin (decide_eq_true (vin_lt hs))) rfl 0 (by decide) (hX.2.2.1.F q323) (fun _ h => h) (congrArg (fun z => some (va_rf z)) usp_s) dX0_thingAt_39 ?_
  exact fr_a hx hb hr (Or.inl ⟨_, rfl⟩) (Or.inr ⟨_, rfl⟩) hlocks hX hC () rfl rfl dX0_thingAt_42
set_option maxRecDepth 100000 in
theorem m_X0_thingAt_6 {l : Launch} {G : Gc} {d kp as un to sc fd tp sh : Row} {sp : Nat → Option Nat} (spot : Int32) (hs : vp_in spot 10) (hn : ¬ d (10 + ix spot) = -1) (hk : vp_in (d (10 + ix spot)) 8) (qk : d (92 + 4 * ix (d (10 + ix spot))) = 6) : Cm l yX0_thingAt (ws_ yX0_thingAt cX0_thingAt 3 (some (.object "java/lang/Object"))) ({ frames := 1, cells := 0, slots := 0, locals := 21 }) (cF G) [.ref (G.ad 5 0), .int spot] (cct G (pg d kp as un to sc fd tp sh) sp) (fun _ : Unit => some (.ref (G.ad 26 (ix (d (10 + ix spot)))))) (fun _ => cct G (pg d kp as un to sc fd tp sh) (usp sp (ix spot) (some (G.ad 26 (ix (d (10 + ix spot))))))) := by
  refine Cm.start (by decide) (Nat.le_of_ble_eq_true rfl) ?_
  intro p e s m below meth c hf hX hC ls hl
  obtain ⟨hx, hb, hr, hml, hown, hts, hlocks⟩ := hf
  have hl : lv_has ls 3 [(0, .ref (G.ad 5 0)), (1, .int spot)] := hl
  have hown : s.vm.findClass "OwlEars" = some m.cls := hown
  refine lv_aload_n hx hb dX0_thingAt_0 rfl (lv_at hl 0 rfl) ?_
  refine fg_get (C := RX0) (T := TX0) (N := 13) (ci := 1) (g := 5) (i := 0) (v := .ref (G.ad 0 0)) hx hb hown hts hX hC in_X0 rfl (cin rfl) rfl 3 (by decide) q425 (fun _ h => h) rfl dX0_thingAt_1 ?_
  refine fg_getN (C := RX4) (T := TX4) (N := 9) (ci := 0) (g := 0) (i := 0) (v := .ref (G.ad 0 10)) hx hb hown hts hX hC in_X4 rfl (cin rfl) rfl 8 (by decide) (hX.2.2.1.F q263) (fun _ h => h) rfl dX0_thingAt_4 ?_
  refine lv_iload_n hx hb dX0_thingAt_7 rfl (lv_at hl 1 rfl) ?_
  refine fg_iald (g := 0) (i := 10) (t0 := 0) (v := d (10 + ix spot)) hx hb hX hC (cin rfl) rfl rfl hs rfl dX0_thingAt_8 ?_
  refine lv_istore_n (lv' := [(2, .int (d (10 + ix spot))), (0, .ref (G.ad 5 0)), (1, .int spot)]) hx hb dX0_thingAt_9 rfl hl (by decide) rfl (fun ls hl => ?_)
  refine lv_aload_n hx hb dX0_thingAt_10 rfl (lv_at hl 1 rfl) ?_
  refine fg_get (C := RX0) (T := TX0) (N := 13) (ci := 1) (g := 5) (i := 0) (v := .ref (G.ad 5 6)) hx hb hown hts hX hC in_X0 rfl (cin rfl) rfl 9 (by decide) q431 (fun _ h => h) rfl dX0_thingAt_11 ?_
  refine lv_iload_n hx hb dX0_thingAt_14 rfl (lv_at hl 2 rfl) ?_
  refine fg_ald (g := 5) (i := 6) (t0 := 3) (ty := .object "OwlEars$Slot") (v := .ref (G.ad 8 (ix spot))) hx hb hX hC (cin rfl) rfl rfl rfl hs rfl dX0_thingAt_15 ?_
  refine lv_iload_n hx hb dX0_thingAt_16 rfl (lv_at hl 0 rfl) ?_
  refine lv_iconst (v := (-1)) hx hb dX0_thingAt_17 rfl ?_
  refine lv_icmp_ne (tgt := 25) hx hb dX0_thingAt_18 (by decide) (fun _ => ?_) (fun z_1 => absurd z_1 hn)
  refine lv_aload_n hx hb dX0_thingAt_25 rfl (lv_at hl 1 rfl) ?_
  refine lv_iload_n hx hb dX0_thingAt_26 rfl (lv_at hl 0 rfl) ?_
  refine fc_V (As := [.int (d (10 + ix spot))]) (rest := [.ref (G.ad 8 (ix spot))]) hx hb hml hown hts hX hC (m_X0_strikeOf_6 (d (10 + ix spot)) hk qk) (lw_V q542 q544 qs5 q108 q545) hdV_X0_strikeOf ⟨rfl, rfl⟩ ⟨Nat.le_of_ble_eq_true rfl, Nat.le_of_ble_eq_true rfl⟩ (fx_recv (g := 5) (i := 0) (ci := 1) (q := (RX0, TX0, 13)) hX hC (cin rfl) rfl rfl) hl.1 rfl (Nat.le_of_ble_eq_true rfl) ⟨Nat.zero_le _, Nat.zero_le _⟩ dX0_thingAt_27 (fun _ H locs hC => ?_)
  refine W.eq (g2 := F0 m 30 ls [.ref (G.ad 26 (ix (d (10 + ix spot)))), .ref (G.ad 8 (ix spot))]) rfl ?_
  refine fg_putN (C := RX5) (T := TX5) (N := 1) (ci := 5) (g := 8) (i := (ix spot)) hx hb hown hts hX hC in_X5 tyX5 tyX5_ok nmX5 rfl (cin (decide_eq_true (vin_lt hs))) rfl 0 (by decide) (hX.2.2.1.F q323) (fun _ h => h) rfl rfl rfl (Nat.le_of_ble_eq_true rfl) (cct G (pg d kp as un to sc fd tp sh) (usp sp (ix spot) (some (G.ad 26 (ix (d (10 + ix spot))))))) cs_sp dX0_thingAt_30 (fun H locs hC => ?_)
  refine lv_aload_n hx hb dX0_thingAt_33 rfl (lv_at hl 1 rfl) ?_
  refine fg_get (C := RX0) (T := TX0) (N := 13) (ci := 1) (g := 5) (i := 0) (v := .ref (G.ad 5 6)) hx hb hown hts hX hC in_X0 rfl (cin rfl) rfl 9 (by decide) q431 (fun _ h => h) rfl dX0_thingAt_34 ?_
  refine lv_iload_n hx hb dX0_thingAt_37 rfl (lv_at hl 2 rfl) ?_
  refine fg_ald (g := 5) (i := 6) (t0 := 3) (ty := .object "OwlEars$Slot") (v := .ref (G.ad 8 (ix spot))) hx hb hX hC (cin rfl) rfl rfl rfl hs rfl dX0_thingAt_38 ?_
  refine fg_getN (C := RX5) (T := TX5) (N := 1) (ci := 5) (g := 8) (i := (ix spot)) (v := .ref (G.ad 26 (ix (d (10 + ix spot))))) hx hb hown hts hX hC in_X5 rfl (cin (decide_eq_true (vin_lt hs))) rfl 0 (by decide) (hX.2.2.1.F q323) (fun _ h => h) (congrArg (fun z => some (va_rf z)) usp_s) dX0_thingAt_39 ?_
  exact fr_a hx hb hr (Or.inl ⟨_, rfl⟩) (Or.inr ⟨_, rfl⟩) hlocks hX hC () rfl rfl dX0_thingAt_42
set_option maxRecDepth 100000 in
theorem m_X0_cast_0_0 {l : Launch} {G : Gc} {d kp as un to sc fd tp sh : Row} {sp : Nat → Option Nat} (i0 : Nat) (hi : i0 < 8) : Cm l yX0_cast (ws_ yX0_cast cX0_cast 2 (some (.object "OwlEars$Strike"))) ({ frames := 0, cells := 0, slots := 0, locals := 0 }) (cF G) [.ref (G.ad 20 i0), .int 0] (cct G (pg d kp as un to sc fd tp sh) sp) (fun _ : Unit => some (.ref (G.ad 20 i0))) (fun _ => cct G (pg d kp as un to sc fd tp sh) sp) := by
  refine Cm.start (by decide) (Nat.le_of_ble_eq_true rfl) ?_
  intro p e s m below meth c hf hX hC ls hl
  obtain ⟨hx, hb, hr, hml, hown, hts, hlocks⟩ := hf
  have hl : lv_has ls 2 [(0, .ref (G.ad 20 i0)), (1, .int 0)] := hl
  have hown : s.vm.findClass "OwlEars" = some m.cls := hown
  refine lv_iload_n hx hb dX0_cast_0 rfl (lv_at hl 1 rfl) ?_
  refine lv_tableOut (tgt := 70) hx hb dX0_cast_1 (tabo 1 6 (by decide) (fun k hk => match k, hk with | 0, _ => (by decide) | 1, _ => (by decide) | 2, _ => (by decide) | 3, _ => (by decide) | 4, _ => (by decide) | 5, _ => (by decide)) rfl) (by decide) ?_
  refine lv_aload_n hx hb dX0_cast_70 rfl (lv_at hl 0 rfl) ?_
  refine va_castE hx hb hown (hts _ q415) (fx_recv (g := 20) (i := i0) (ci := 6) (q := (RX6, TX6, 2)) hX hC (cin (decide_eq_true hi)) rfl rfl) dX0_cast_71 ?_
  exact fr_a hx hb hr (Or.inl ⟨_, rfl⟩) (Or.inr ⟨_, rfl⟩) hlocks hX hC () rfl rfl dX0_cast_74
set_option maxRecDepth 100000 in
theorem m_X0_cast_1_0 {l : Launch} {G : Gc} {d kp as un to sc fd tp sh : Row} {sp : Nat → Option Nat} (i0 : Nat) (hi : i0 < 8) : Cm l yX0_cast (ws_ yX0_cast cX0_cast 2 (some (.object "OwlEars$Strike"))) ({ frames := 0, cells := 0, slots := 0, locals := 0 }) (cF G) [.ref (G.ad 21 i0), .int 0] (cct G (pg d kp as un to sc fd tp sh) sp) (fun _ : Unit => some (.ref (G.ad 21 i0))) (fun _ => cct G (pg d kp as un to sc fd tp sh) sp) := by
  refine Cm.start (by decide) (Nat.le_of_ble_eq_true rfl) ?_
  intro p e s m below meth c hf hX hC ls hl
  obtain ⟨hx, hb, hr, hml, hown, hts, hlocks⟩ := hf
  have hl : lv_has ls 2 [(0, .ref (G.ad 21 i0)), (1, .int 0)] := hl
  have hown : s.vm.findClass "OwlEars" = some m.cls := hown
  refine lv_iload_n hx hb dX0_cast_0 rfl (lv_at hl 1 rfl) ?_
  refine lv_tableOut (tgt := 70) hx hb dX0_cast_1 (tabo 1 6 (by decide) (fun k hk => match k, hk with | 0, _ => (by decide) | 1, _ => (by decide) | 2, _ => (by decide) | 3, _ => (by decide) | 4, _ => (by decide) | 5, _ => (by decide)) rfl) (by decide) ?_
  refine lv_aload_n hx hb dX0_cast_70 rfl (lv_at hl 0 rfl) ?_
  refine va_castY (C := RX7) hx hb hown (hts _ q415) (hX.2.2.1.C q1888) (fx_recv (g := 21) (i := i0) (ci := 7) (q := (RX7, TX7, 3)) hX hC (cin (decide_eq_true hi)) rfl rfl) dX0_cast_71 ?_
  exact fr_a hx hb hr (Or.inl ⟨_, rfl⟩) (Or.inr ⟨_, rfl⟩) hlocks hX hC () rfl rfl dX0_cast_74
set_option maxRecDepth 100000 in
theorem m_X0_cast_1_1 {l : Launch} {G : Gc} {d kp as un to sc fd tp sh : Row} {sp : Nat → Option Nat} (i0 : Nat) (hi : i0 < 8) : Cm l yX0_cast (ws_ yX0_cast cX0_cast 2 (some (.object "OwlEars$Strike"))) ({ frames := 0, cells := 0, slots := 0, locals := 0 }) (cF G) [.ref (G.ad 21 i0), .int 1] (cct G (pg d kp as un to sc fd tp sh) sp) (fun _ : Unit => some (.ref (G.ad 21 i0))) (fun _ => cct G (pg d kp as un to sc fd tp sh) sp) := by
  refine Cm.start (by decide) (Nat.le_of_ble_eq_true rfl) ?_
  intro p e s m below meth c hf hX hC ls hl
  obtain ⟨hx, hb, hr, hml, hown, hts, hlocks⟩ := hf
  have hl : lv_has ls 2 [(0, .ref (G.ad 21 i0)), (1, .int 1)] := hl
  have hown : s.vm.findClass "OwlEars" = some m.cls := hown
  refine lv_iload_n hx hb dX0_cast_0 rfl (lv_at hl 1 rfl) ?_
  refine lv_tableIn (off := 39) (tgt := 40) hx hb dX0_cast_1 (by decide) (by decide) rfl (by decide) ?_
  refine lv_aload_n hx hb dX0_cast_40 rfl (lv_at hl 0 rfl) ?_
  refine va_castE hx hb hown (hts _ q331) (fx_recv (g := 21) (i := i0) (ci := 7) (q := (RX7, TX7, 3)) hX hC (cin (decide_eq_true hi)) rfl rfl) dX0_cast_41 ?_
  exact fr_a hx hb hr (Or.inl ⟨_, rfl⟩) (Or.inr ⟨_, rfl⟩) hlocks hX hC () rfl rfl dX0_cast_44
set_option maxRecDepth 100000 in
theorem m_X0_cast_2_0 {l : Launch} {G : Gc} {d kp as un to sc fd tp sh : Row} {sp : Nat → Option Nat} (i0 : Nat) (hi : i0 < 8) : Cm l yX0_cast (ws_ yX0_cast cX0_cast 2 (some (.object "OwlEars$Strike"))) ({ frames := 0, cells := 0, slots := 0, locals := 0 }) (cF G) [.ref (G.ad 22 i0), .int 0] (cct G (pg d kp as un to sc fd tp sh) sp) (fun _ : Unit => some (.ref (G.ad 22 i0))) (fun _ => cct G (pg d kp as un to sc fd tp sh) sp) := by
  refine Cm.start (by decide) (Nat.le_of_ble_eq_true rfl) ?_
  intro p e s m below meth c hf hX hC ls hl
  obtain ⟨hx, hb, hr, hml, hown, hts, hlocks⟩ := hf
  have hl : lv_has ls 2 [(0, .ref (G.ad 22 i0)), (1, .int 0)] := hl
  have hown : s.vm.findClass "OwlEars" = some m.cls := hown
  refine lv_iload_n hx hb dX0_cast_0 rfl (lv_at hl 1 rfl) ?_
  refine lv_tableOut (tgt := 70) hx hb dX0_cast_1 (tabo 1 6 (by decide) (fun k hk => match k, hk with | 0, _ => (by decide) | 1, _ => (by decide) | 2, _ => (by decide) | 3, _ => (by decide) | 4, _ => (by decide) | 5, _ => (by decide)) rfl) (by decide) ?_
  refine lv_aload_n hx hb dX0_cast_70 rfl (lv_at hl 0 rfl) ?_
  refine va_castY (C := RX8) hx hb hown (hts _ q415) (hX.2.2.1.C q1884) (fx_recv (g := 22) (i := i0) (ci := 8) (q := (RX8, TX8, 3)) hX hC (cin (decide_eq_true hi)) rfl rfl) dX0_cast_71 ?_
  exact fr_a hx hb hr (Or.inl ⟨_, rfl⟩) (Or.inr ⟨_, rfl⟩) hlocks hX hC () rfl rfl dX0_cast_74
set_option maxRecDepth 100000 in
theorem m_X0_cast_2_2 {l : Launch} {G : Gc} {d kp as un to sc fd tp sh : Row} {sp : Nat → Option Nat} (i0 : Nat) (hi : i0 < 8) : Cm l yX0_cast (ws_ yX0_cast cX0_cast 2 (some (.object "OwlEars$Strike"))) ({ frames := 0, cells := 0, slots := 0, locals := 0 }) (cF G) [.ref (G.ad 22 i0), .int 2] (cct G (pg d kp as un to sc fd tp sh) sp) (fun _ : Unit => some (.ref (G.ad 22 i0))) (fun _ => cct G (pg d kp as un to sc fd tp sh) sp) := by
  refine Cm.start (by decide) (Nat.le_of_ble_eq_true rfl) ?_
  intro p e s m below meth c hf hX hC ls hl
  obtain ⟨hx, hb, hr, hml, hown, hts, hlocks⟩ := hf
  have hl : lv_has ls 2 [(0, .ref (G.ad 22 i0)), (1, .int 2)] := hl
  have hown : s.vm.findClass "OwlEars" = some m.cls := hown
  refine lv_iload_n hx hb dX0_cast_0 rfl (lv_at hl 1 rfl) ?_
  refine lv_tableIn (off := 44) (tgt := 45) hx hb dX0_cast_1 (by decide) (by decide) rfl (by decide) ?_
  refine lv_aload_n hx hb dX0_cast_45 rfl (lv_at hl 0 rfl) ?_
  refine va_castE hx hb hown (hts _ q351) (fx_recv (g := 22) (i := i0) (ci := 8) (q := (RX8, TX8, 3)) hX hC (cin (decide_eq_true hi)) rfl rfl) dX0_cast_46 ?_
  exact fr_a hx hb hr (Or.inl ⟨_, rfl⟩) (Or.inr ⟨_, rfl⟩) hlocks hX hC () rfl rfl dX0_cast_49
set_option maxRecDepth 100000 in
theorem m_X0_cast_3_0 {l : Launch} {G : Gc} {d kp as un to sc fd tp sh : Row} {sp : Nat → Option Nat} (i0 : Nat) (hi : i0 < 8) : Cm l yX0_cast (ws_ yX0_cast cX0_cast 2 (some (.object "OwlEars$Strike"))) ({ frames := 0, cells := 0, slots := 0, locals := 0 }) (cF G) [.ref (G.ad 23 i0), .int 0] (cct G (pg d kp as un to sc fd tp sh) sp) (fun _ : Unit => some (.ref (G.ad 23 i0))) (fun _ => cct G (pg d kp as un to sc fd tp sh) sp) := by
  refine Cm.start (by decide) (Nat.le_of_ble_eq_true rfl) ?_
  intro p e s m below meth c hf hX hC ls hl
  obtain ⟨hx, hb, hr, hml, hown, hts, hlocks⟩ := hf
  have hl : lv_has ls 2 [(0, .ref (G.ad 23 i0)), (1, .int 0)] := hl
  have hown : s.vm.findClass "OwlEars" = some m.cls := hown
  refine lv_iload_n hx hb dX0_cast_0 rfl (lv_at hl 1 rfl) ?_
  refine lv_tableOut (tgt := 70) hx hb dX0_cast_1 (tabo 1 6 (by decide) (fun k hk => match k, hk with | 0, _ => (by decide) | 1, _ => (by decide) | 2, _ => (by decide) | 3, _ => (by decide) | 4, _ => (by decide) | 5, _ => (by decide)) rfl) (by decide) ?_
  refine lv_aload_n hx hb dX0_cast_70 rfl (lv_at hl 0 rfl) ?_
  refine va_castY (C := RX9) hx hb hown (hts _ q415) (hX.2.2.1.C q1886) (fx_recv (g := 23) (i := i0) (ci := 9) (q := (RX9, TX9, 4)) hX hC (cin (decide_eq_true hi)) rfl rfl) dX0_cast_71 ?_
  exact fr_a hx hb hr (Or.inl ⟨_, rfl⟩) (Or.inr ⟨_, rfl⟩) hlocks hX hC () rfl rfl dX0_cast_74
set_option maxRecDepth 100000 in
theorem m_X0_cast_3_2 {l : Launch} {G : Gc} {d kp as un to sc fd tp sh : Row} {sp : Nat → Option Nat} (i0 : Nat) (hi : i0 < 8) : Cm l yX0_cast (ws_ yX0_cast cX0_cast 2 (some (.object "OwlEars$Strike"))) ({ frames := 0, cells := 0, slots := 0, locals := 0 }) (cF G) [.ref (G.ad 23 i0), .int 2] (cct G (pg d kp as un to sc fd tp sh) sp) (fun _ : Unit => some (.ref (G.ad 23 i0))) (fun _ => cct G (pg d kp as un to sc fd tp sh) sp) := by
  refine Cm.start (by decide) (Nat.le_of_ble_eq_true rfl) ?_
  intro p e s m below meth c hf hX hC ls hl
  obtain ⟨hx, hb, hr, hml, hown, hts, hlocks⟩ := hf
  have hl : lv_has ls 2 [(0, .ref (G.ad 23 i0)), (1, .int 2)] := hl
  have hown : s.vm.findClass "OwlEars" = some m.cls := hown
  refine lv_iload_n hx hb dX0_cast_0 rfl (lv_at hl 1 rfl) ?_
  refine lv_tableIn (off := 44) (tgt := 45) hx hb dX0_cast_1 (by decide) (by decide) rfl (by decide) ?_
  refine lv_aload_n hx hb dX0_cast_45 rfl (lv_at hl 0 rfl) ?_
  refine va_castY (C := RX9) hx hb hown (hts _ q351) (hX.2.2.1.C q1891) (fx_recv (g := 23) (i := i0) (ci := 9) (q := (RX9, TX9, 4)) hX hC (cin (decide_eq_true hi)) rfl rfl) dX0_cast_46 ?_
  exact fr_a hx hb hr (Or.inl ⟨_, rfl⟩) (Or.inr ⟨_, rfl⟩) hlocks hX hC () rfl rfl dX0_cast_49
set_option maxRecDepth 100000 in
theorem m_X0_cast_3_3 {l : Launch} {G : Gc} {d kp as un to sc fd tp sh : Row} {sp : Nat → Option Nat} (i0 : Nat) (hi : i0 < 8) : Cm l yX0_cast (ws_ yX0_cast cX0_cast 2 (some (.object "OwlEars$Strike"))) ({ frames := 0, cells := 0, slots := 0, locals := 0 }) (cF G) [.ref (G.ad 23 i0), .int 3] (cct G (pg d kp as un to sc fd tp sh) sp) (fun _ : Unit => some (.ref (G.ad 23 i0))) (fun _ => cct G (pg d kp as un to sc fd tp sh) sp) := by
  refine Cm.start (by decide) (Nat.le_of_ble_eq_true rfl) ?_
  intro p e s m below meth c hf hX hC ls hl
  obtain ⟨hx, hb, hr, hml, hown, hts, hlocks⟩ := hf
  have hl : lv_has ls 2 [(0, .ref (G.ad 23 i0)), (1, .int 3)] := hl
  have hown : s.vm.findClass "OwlEars" = some m.cls := hown
  refine lv_iload_n hx hb dX0_cast_0 rfl (lv_at hl 1 rfl) ?_
  refine lv_tableIn (off := 49) (tgt := 50) hx hb dX0_cast_1 (by decide) (by decide) rfl (by decide) ?_
  refine lv_aload_n hx hb dX0_cast_50 rfl (lv_at hl 0 rfl) ?_
  refine va_castE hx hb hown (hts _ q363) (fx_recv (g := 23) (i := i0) (ci := 9) (q := (RX9, TX9, 4)) hX hC (cin (decide_eq_true hi)) rfl rfl) dX0_cast_51 ?_
  exact fr_a hx hb hr (Or.inl ⟨_, rfl⟩) (Or.inr ⟨_, rfl⟩) hlocks hX hC () rfl rfl dX0_cast_54
set_option maxRecDepth 100000 in
theorem m_X0_cast_4_0 {l : Launch} {G : Gc} {d kp as un to sc fd tp sh : Row} {sp : Nat → Option Nat} (i0 : Nat) (hi : i0 < 8) : Cm l yX0_cast (ws_ yX0_cast cX0_cast 2 (some (.object "OwlEars$Strike"))) ({ frames := 0, cells := 0, slots := 0, locals := 0 }) (cF G) [.ref (G.ad 24 i0), .int 0] (cct G (pg d kp as un to sc fd tp sh) sp) (fun _ : Unit => some (.ref (G.ad 24 i0))) (fun _ => cct G (pg d kp as un to sc fd tp sh) sp) := by
  refine Cm.start (by decide) (Nat.le_of_ble_eq_true rfl) ?_
  intro p e s m below meth c hf hX hC ls hl
  obtain ⟨hx, hb, hr, hml, hown, hts, hlocks⟩ := hf
  have hl : lv_has ls 2 [(0, .ref (G.ad 24 i0)), (1, .int 0)] := hl
  have hown : s.vm.findClass "OwlEars" = some m.cls := hown
  refine lv_iload_n hx hb dX0_cast_0 rfl (lv_at hl 1 rfl) ?_
  refine lv_tableOut (tgt := 70) hx hb dX0_cast_1 (tabo 1 6 (by decide) (fun k hk => match k, hk with | 0, _ => (by decide) | 1, _ => (by decide) | 2, _ => (by decide) | 3, _ => (by decide) | 4, _ => (by decide) | 5, _ => (by decide)) rfl) (by decide) ?_
  refine lv_aload_n hx hb dX0_cast_70 rfl (lv_at hl 0 rfl) ?_
  refine va_castY (C := RX10) hx hb hown (hts _ q415) (hX.2.2.1.C q1889) (fx_recv (g := 24) (i := i0) (ci := 10) (q := (RX10, TX10, 5)) hX hC (cin (decide_eq_true hi)) rfl rfl) dX0_cast_71 ?_
  exact fr_a hx hb hr (Or.inl ⟨_, rfl⟩) (Or.inr ⟨_, rfl⟩) hlocks hX hC () rfl rfl dX0_cast_74
set_option maxRecDepth 100000 in
theorem m_X0_cast_4_2 {l : Launch} {G : Gc} {d kp as un to sc fd tp sh : Row} {sp : Nat → Option Nat} (i0 : Nat) (hi : i0 < 8) : Cm l yX0_cast (ws_ yX0_cast cX0_cast 2 (some (.object "OwlEars$Strike"))) ({ frames := 0, cells := 0, slots := 0, locals := 0 }) (cF G) [.ref (G.ad 24 i0), .int 2] (cct G (pg d kp as un to sc fd tp sh) sp) (fun _ : Unit => some (.ref (G.ad 24 i0))) (fun _ => cct G (pg d kp as un to sc fd tp sh) sp) := by
  refine Cm.start (by decide) (Nat.le_of_ble_eq_true rfl) ?_
  intro p e s m below meth c hf hX hC ls hl
  obtain ⟨hx, hb, hr, hml, hown, hts, hlocks⟩ := hf
  have hl : lv_has ls 2 [(0, .ref (G.ad 24 i0)), (1, .int 2)] := hl
  have hown : s.vm.findClass "OwlEars" = some m.cls := hown
  refine lv_iload_n hx hb dX0_cast_0 rfl (lv_at hl 1 rfl) ?_
  refine lv_tableIn (off := 44) (tgt := 45) hx hb dX0_cast_1 (by decide) (by decide) rfl (by decide) ?_
  refine lv_aload_n hx hb dX0_cast_45 rfl (lv_at hl 0 rfl) ?_
  refine va_castY (C := RX10) hx hb hown (hts _ q351) (hX.2.2.1.C q1892) (fx_recv (g := 24) (i := i0) (ci := 10) (q := (RX10, TX10, 5)) hX hC (cin (decide_eq_true hi)) rfl rfl) dX0_cast_46 ?_
  exact fr_a hx hb hr (Or.inl ⟨_, rfl⟩) (Or.inr ⟨_, rfl⟩) hlocks hX hC () rfl rfl dX0_cast_49
set_option maxRecDepth 100000 in
theorem m_X0_cast_4_3 {l : Launch} {G : Gc} {d kp as un to sc fd tp sh : Row} {sp : Nat → Option Nat} (i0 : Nat) (hi : i0 < 8) : Cm l yX0_cast (ws_ yX0_cast cX0_cast 2 (some (.object "OwlEars$Strike"))) ({ frames := 0, cells := 0, slots := 0, locals := 0 }) (cF G) [.ref (G.ad 24 i0), .int 3] (cct G (pg d kp as un to sc fd tp sh) sp) (fun _ : Unit => some (.ref (G.ad 24 i0))) (fun _ => cct G (pg d kp as un to sc fd tp sh) sp) := by
  refine Cm.start (by decide) (Nat.le_of_ble_eq_true rfl) ?_
  intro p e s m below meth c hf hX hC ls hl
  obtain ⟨hx, hb, hr, hml, hown, hts, hlocks⟩ := hf
  have hl : lv_has ls 2 [(0, .ref (G.ad 24 i0)), (1, .int 3)] := hl
  have hown : s.vm.findClass "OwlEars" = some m.cls := hown
  refine lv_iload_n hx hb dX0_cast_0 rfl (lv_at hl 1 rfl) ?_
  refine lv_tableIn (off := 49) (tgt := 50) hx hb dX0_cast_1 (by decide) (by decide) rfl (by decide) ?_
  refine lv_aload_n hx hb dX0_cast_50 rfl (lv_at hl 0 rfl) ?_
  refine va_castY (C := RX10) hx hb hown (hts _ q363) (hX.2.2.1.C q1893) (fx_recv (g := 24) (i := i0) (ci := 10) (q := (RX10, TX10, 5)) hX hC (cin (decide_eq_true hi)) rfl rfl) dX0_cast_51 ?_
  exact fr_a hx hb hr (Or.inl ⟨_, rfl⟩) (Or.inr ⟨_, rfl⟩) hlocks hX hC () rfl rfl dX0_cast_54
set_option maxRecDepth 100000 in
theorem m_X0_cast_4_4 {l : Launch} {G : Gc} {d kp as un to sc fd tp sh : Row} {sp : Nat → Option Nat} (i0 : Nat) (hi : i0 < 8) : Cm l yX0_cast (ws_ yX0_cast cX0_cast 2 (some (.object "OwlEars$Strike"))) ({ frames := 0, cells := 0, slots := 0, locals := 0 }) (cF G) [.ref (G.ad 24 i0), .int 4] (cct G (pg d kp as un to sc fd tp sh) sp) (fun _ : Unit => some (.ref (G.ad 24 i0))) (fun _ => cct G (pg d kp as un to sc fd tp sh) sp) := by
  refine Cm.start (by decide) (Nat.le_of_ble_eq_true rfl) ?_
  intro p e s m below meth c hf hX hC ls hl
  obtain ⟨hx, hb, hr, hml, hown, hts, hlocks⟩ := hf
  have hl : lv_has ls 2 [(0, .ref (G.ad 24 i0)), (1, .int 4)] := hl
  have hown : s.vm.findClass "OwlEars" = some m.cls := hown
  refine lv_iload_n hx hb dX0_cast_0 rfl (lv_at hl 1 rfl) ?_
  refine lv_tableIn (off := 54) (tgt := 55) hx hb dX0_cast_1 (by decide) (by decide) rfl (by decide) ?_
  refine lv_aload_n hx hb dX0_cast_55 rfl (lv_at hl 0 rfl) ?_
  refine va_castE hx hb hown (hts _ q376) (fx_recv (g := 24) (i := i0) (ci := 10) (q := (RX10, TX10, 5)) hX hC (cin (decide_eq_true hi)) rfl rfl) dX0_cast_56 ?_
  exact fr_a hx hb hr (Or.inl ⟨_, rfl⟩) (Or.inr ⟨_, rfl⟩) hlocks hX hC () rfl rfl dX0_cast_59
set_option maxRecDepth 100000 in
theorem m_X0_cast_5_0 {l : Launch} {G : Gc} {d kp as un to sc fd tp sh : Row} {sp : Nat → Option Nat} (i0 : Nat) (hi : i0 < 8) : Cm l yX0_cast (ws_ yX0_cast cX0_cast 2 (some (.object "OwlEars$Strike"))) ({ frames := 0, cells := 0, slots := 0, locals := 0 }) (cF G) [.ref (G.ad 25 i0), .int 0] (cct G (pg d kp as un to sc fd tp sh) sp) (fun _ : Unit => some (.ref (G.ad 25 i0))) (fun _ => cct G (pg d kp as un to sc fd tp sh) sp) := by
  refine Cm.start (by decide) (Nat.le_of_ble_eq_true rfl) ?_
  intro p e s m below meth c hf hX hC ls hl
  obtain ⟨hx, hb, hr, hml, hown, hts, hlocks⟩ := hf
  have hl : lv_has ls 2 [(0, .ref (G.ad 25 i0)), (1, .int 0)] := hl
  have hown : s.vm.findClass "OwlEars" = some m.cls := hown
  refine lv_iload_n hx hb dX0_cast_0 rfl (lv_at hl 1 rfl) ?_
  refine lv_tableOut (tgt := 70) hx hb dX0_cast_1 (tabo 1 6 (by decide) (fun k hk => match k, hk with | 0, _ => (by decide) | 1, _ => (by decide) | 2, _ => (by decide) | 3, _ => (by decide) | 4, _ => (by decide) | 5, _ => (by decide)) rfl) (by decide) ?_
  refine lv_aload_n hx hb dX0_cast_70 rfl (lv_at hl 0 rfl) ?_
  refine va_castY (C := RX11) hx hb hown (hts _ q415) (hX.2.2.1.C q1887) (fx_recv (g := 25) (i := i0) (ci := 11) (q := (RX11, TX11, 3)) hX hC (cin (decide_eq_true hi)) rfl rfl) dX0_cast_71 ?_
  exact fr_a hx hb hr (Or.inl ⟨_, rfl⟩) (Or.inr ⟨_, rfl⟩) hlocks hX hC () rfl rfl dX0_cast_74
set_option maxRecDepth 100000 in
theorem m_X0_cast_5_5 {l : Launch} {G : Gc} {d kp as un to sc fd tp sh : Row} {sp : Nat → Option Nat} (i0 : Nat) (hi : i0 < 8) : Cm l yX0_cast (ws_ yX0_cast cX0_cast 2 (some (.object "OwlEars$Strike"))) ({ frames := 0, cells := 0, slots := 0, locals := 0 }) (cF G) [.ref (G.ad 25 i0), .int 5] (cct G (pg d kp as un to sc fd tp sh) sp) (fun _ : Unit => some (.ref (G.ad 25 i0))) (fun _ => cct G (pg d kp as un to sc fd tp sh) sp) := by
  refine Cm.start (by decide) (Nat.le_of_ble_eq_true rfl) ?_
  intro p e s m below meth c hf hX hC ls hl
  obtain ⟨hx, hb, hr, hml, hown, hts, hlocks⟩ := hf
  have hl : lv_has ls 2 [(0, .ref (G.ad 25 i0)), (1, .int 5)] := hl
  have hown : s.vm.findClass "OwlEars" = some m.cls := hown
  refine lv_iload_n hx hb dX0_cast_0 rfl (lv_at hl 1 rfl) ?_
  refine lv_tableIn (off := 59) (tgt := 60) hx hb dX0_cast_1 (by decide) (by decide) rfl (by decide) ?_
  refine lv_aload_n hx hb dX0_cast_60 rfl (lv_at hl 0 rfl) ?_
  refine va_castE hx hb hown (hts _ q390) (fx_recv (g := 25) (i := i0) (ci := 11) (q := (RX11, TX11, 3)) hX hC (cin (decide_eq_true hi)) rfl rfl) dX0_cast_61 ?_
  exact fr_a hx hb hr (Or.inl ⟨_, rfl⟩) (Or.inr ⟨_, rfl⟩) hlocks hX hC () rfl rfl dX0_cast_64
set_option maxRecDepth 100000 in
theorem m_X0_cast_6_0 {l : Launch} {G : Gc} {d kp as un to sc fd tp sh : Row} {sp : Nat → Option Nat} (i0 : Nat) (hi : i0 < 8) : Cm l yX0_cast (ws_ yX0_cast cX0_cast 2 (some (.object "OwlEars$Strike"))) ({ frames := 0, cells := 0, slots := 0, locals := 0 }) (cF G) [.ref (G.ad 26 i0), .int 0] (cct G (pg d kp as un to sc fd tp sh) sp) (fun _ : Unit => some (.ref (G.ad 26 i0))) (fun _ => cct G (pg d kp as un to sc fd tp sh) sp) := by
  refine Cm.start (by decide) (Nat.le_of_ble_eq_true rfl) ?_
  intro p e s m below meth c hf hX hC ls hl
  obtain ⟨hx, hb, hr, hml, hown, hts, hlocks⟩ := hf
  have hl : lv_has ls 2 [(0, .ref (G.ad 26 i0)), (1, .int 0)] := hl
  have hown : s.vm.findClass "OwlEars" = some m.cls := hown
  refine lv_iload_n hx hb dX0_cast_0 rfl (lv_at hl 1 rfl) ?_
  refine lv_tableOut (tgt := 70) hx hb dX0_cast_1 (tabo 1 6 (by decide) (fun k hk => match k, hk with | 0, _ => (by decide) | 1, _ => (by decide) | 2, _ => (by decide) | 3, _ => (by decide) | 4, _ => (by decide) | 5, _ => (by decide)) rfl) (by decide) ?_
  refine lv_aload_n hx hb dX0_cast_70 rfl (lv_at hl 0 rfl) ?_
  refine va_castY (C := RX12) hx hb hown (hts _ q415) (hX.2.2.1.C q1885) (fx_recv (g := 26) (i := i0) (ci := 12) (q := (RX12, TX12, 4)) hX hC (cin (decide_eq_true hi)) rfl rfl) dX0_cast_71 ?_
  exact fr_a hx hb hr (Or.inl ⟨_, rfl⟩) (Or.inr ⟨_, rfl⟩) hlocks hX hC () rfl rfl dX0_cast_74
set_option maxRecDepth 100000 in
theorem m_X0_cast_6_1 {l : Launch} {G : Gc} {d kp as un to sc fd tp sh : Row} {sp : Nat → Option Nat} (i0 : Nat) (hi : i0 < 8) : Cm l yX0_cast (ws_ yX0_cast cX0_cast 2 (some (.object "OwlEars$Strike"))) ({ frames := 0, cells := 0, slots := 0, locals := 0 }) (cF G) [.ref (G.ad 26 i0), .int 1] (cct G (pg d kp as un to sc fd tp sh) sp) (fun _ : Unit => some (.ref (G.ad 26 i0))) (fun _ => cct G (pg d kp as un to sc fd tp sh) sp) := by
  refine Cm.start (by decide) (Nat.le_of_ble_eq_true rfl) ?_
  intro p e s m below meth c hf hX hC ls hl
  obtain ⟨hx, hb, hr, hml, hown, hts, hlocks⟩ := hf
  have hl : lv_has ls 2 [(0, .ref (G.ad 26 i0)), (1, .int 1)] := hl
  have hown : s.vm.findClass "OwlEars" = some m.cls := hown
  refine lv_iload_n hx hb dX0_cast_0 rfl (lv_at hl 1 rfl) ?_
  refine lv_tableIn (off := 39) (tgt := 40) hx hb dX0_cast_1 (by decide) (by decide) rfl (by decide) ?_
  refine lv_aload_n hx hb dX0_cast_40 rfl (lv_at hl 0 rfl) ?_
  refine va_castY (C := RX12) hx hb hown (hts _ q331) (hX.2.2.1.C q1890) (fx_recv (g := 26) (i := i0) (ci := 12) (q := (RX12, TX12, 4)) hX hC (cin (decide_eq_true hi)) rfl rfl) dX0_cast_41 ?_
  exact fr_a hx hb hr (Or.inl ⟨_, rfl⟩) (Or.inr ⟨_, rfl⟩) hlocks hX hC () rfl rfl dX0_cast_44
set_option maxRecDepth 100000 in
theorem m_X0_cast_6_6 {l : Launch} {G : Gc} {d kp as un to sc fd tp sh : Row} {sp : Nat → Option Nat} (i0 : Nat) (hi : i0 < 8) : Cm l yX0_cast (ws_ yX0_cast cX0_cast 2 (some (.object "OwlEars$Strike"))) ({ frames := 0, cells := 0, slots := 0, locals := 0 }) (cF G) [.ref (G.ad 26 i0), .int 6] (cct G (pg d kp as un to sc fd tp sh) sp) (fun _ : Unit => some (.ref (G.ad 26 i0))) (fun _ => cct G (pg d kp as un to sc fd tp sh) sp) := by
  refine Cm.start (by decide) (Nat.le_of_ble_eq_true rfl) ?_
  intro p e s m below meth c hf hX hC ls hl
  obtain ⟨hx, hb, hr, hml, hown, hts, hlocks⟩ := hf
  have hl : lv_has ls 2 [(0, .ref (G.ad 26 i0)), (1, .int 6)] := hl
  have hown : s.vm.findClass "OwlEars" = some m.cls := hown
  refine lv_iload_n hx hb dX0_cast_0 rfl (lv_at hl 1 rfl) ?_
  refine lv_tableIn (off := 64) (tgt := 65) hx hb dX0_cast_1 (by decide) (by decide) rfl (by decide) ?_
  refine lv_aload_n hx hb dX0_cast_65 rfl (lv_at hl 0 rfl) ?_
  refine va_castE hx hb hown (hts _ q402) (fx_recv (g := 26) (i := i0) (ci := 12) (q := (RX12, TX12, 4)) hX hC (cin (decide_eq_true hi)) rfl rfl) dX0_cast_66 ?_
  exact fr_a hx hb hr (Or.inl ⟨_, rfl⟩) (Or.inr ⟨_, rfl⟩) hlocks hX hC () rfl rfl dX0_cast_69
set_option maxRecDepth 100000 in
theorem m_X0_as {l : Launch} {G : Gc} {d kp as un to sc fd tp sh : Row} {sp : Nat → Option Nat} (hw : WF d) (spot kind : Int32) : Cm l yX0_as (ws_ yX0_as cX0_as 5 (some .int)) ({ frames := 7, cells := 0, slots := 0, locals := 143 }) (cF G) [.ref (G.ad 5 0), .int spot, .int kind] (cct G (pg d kp as un to sc fd tp sh) sp) (fun u : Nat → Option Nat => some (.int ((s_as d fd spot kind).1))) (fun u => cct G (pg d kp as un to sc ((s_as d fd spot kind).2) tp sh) u) := by
  refine Cm.start (by decide) (Nat.le_of_ble_eq_true rfl) ?_
  intro p e s m below meth c hf hX hC ls hl
  obtain ⟨hx, hb, hr, hml, hown, hts, hlocks⟩ := hf
  have hl : lv_has ls 5 [(0, .ref (G.ad 5 0)), (1, .int spot), (2, .int kind)] := hl
  have hown : s.vm.findClass "OwlEars" = some m.cls := hown
  refine lv_iload_n hx hb dX0_as_0 rfl (lv_at hl 1 rfl) ?_
  refine fc_S (As := [.int spot]) (rest := []) hx hb hml hown hts hX hC (m_X0_isSpot spot) (lw_S q1184 q1185 q108 q1186) hdS_X0_isSpot ⟨rfl, rfl⟩ ⟨Nat.le_of_ble_eq_true rfl, Nat.le_of_ble_eq_true rfl⟩ hl.1 rfl (Nat.le_of_ble_eq_true rfl) ⟨Nat.zero_le _, Nat.zero_le _⟩ dX0_as_1 (fun _ H locs hC => ?_)
  refine W.eq (g2 := F0 m 4 ls [.int (b2i (p_in spot 0 9))]) rfl ?_
  refine fb_eq (tgt := 14) hx hb dX0_as_4 (by decide) (fun c_2 => ?_) (fun c_2 => ?_)
  · refine lv_aload_n hx hb dX0_as_14 rfl (lv_at hl 0 rfl) ?_
    refine lv_iconst (v := 0) hx hb dX0_as_15 rfl ?_
    refine fc_V (As := [.int 0]) (rest := []) hx hb hml hown hts hX hC (m_X0_finding 0 (vin_b rfl)) (lw_V q472 q474 qs2 q108 q475) hdV_X0_finding ⟨rfl, rfl⟩ ⟨Nat.le_of_ble_eq_true rfl, Nat.le_of_ble_eq_true rfl⟩ (fx_recv (g := 5) (i := 0) (ci := 1) (q := (RX0, TX0, 13)) hX hC (cin rfl) rfl rfl) hl.1 rfl (Nat.le_of_ble_eq_true rfl) ⟨Nat.zero_le _, Nat.zero_le _⟩ dX0_as_16 (fun _ H locs hC => ?_)
    refine W.eq (g2 := F0 m 19 ls [.int (-1000001)]) rfl ?_
    have hs : s_as d fd spot kind = (((-1000001), p_find fd 0) : Int32 × Row) := by rw [s_as, if_neg (fun z => c_2 z.1)]
    exact fr_i hx hb hr hlocks hX hC sp (congrArg (fun z => some (Value.int z)) (t2_1 hs)) (congrArg (fun z => cct G (pg d kp as un to sc z tp sh) sp) (t2_2 hs)).symm dX0_as_19
  · refine lv_iload_n hx hb dX0_as_7 rfl (lv_at hl 2 rfl) ?_
    refine fc_S (As := [.int kind]) (rest := []) hx hb hml hown hts hX hC (m_X0_isKind kind) (lw_S q527 q528 q108 q529) hdS_X0_isKind ⟨rfl, rfl⟩ ⟨Nat.le_of_ble_eq_true rfl, Nat.le_of_ble_eq_true rfl⟩ hl.1 rfl (Nat.le_of_ble_eq_true rfl) ⟨Nat.zero_le _, Nat.zero_le _⟩ dX0_as_8 (fun _ H locs hC => ?_)
    refine W.eq (g2 := F0 m 11 ls [.int (b2i (p_in kind 0 6))]) rfl ?_
    refine fb_ne (tgt := 20) hx hb dX0_as_11 (by decide) (fun c_5 => ?_) (fun c_5 => ?_)
    · have hs : vp_in spot 10 := vin_of c_2 10 (by decide)
      by_cases hn : d (10 + ix spot) = -1
      · refine lv_aload_n hx hb dX0_as_20 rfl (lv_at hl 0 rfl) ?_
        refine lv_iload_n hx hb dX0_as_21 rfl (lv_at hl 1 rfl) ?_
        refine fc_V (As := [.int spot]) (rest := []) hx hb hml hown hts hX hC (m_X0_thingAt_n spot hs hn) (lw_V q1191 q1193 qs51 q108 q1194) hdV_X0_thingAt ⟨rfl, rfl⟩ ⟨Nat.le_of_ble_eq_true rfl, Nat.le_of_ble_eq_true rfl⟩ (fx_recv (g := 5) (i := 0) (ci := 1) (q := (RX0, TX0, 13)) hX hC (cin rfl) rfl rfl) hl.1 rfl (Nat.le_of_ble_eq_true rfl) ⟨Nat.zero_le _, Nat.zero_le _⟩ dX0_as_22 (fun _ H locs hC => ?_)
        refine W.eq (g2 := F0 m 25 ls [.null]) rfl ?_
        refine lv_astore_nN (lv' := [(3, .null), (0, .ref (G.ad 5 0)), (1, .int spot), (2, .int kind)]) hx hb dX0_as_25 rfl hl (by decide) rfl (fun ls hl => ?_)
        refine lv_aload_nN hx hb dX0_as_26 rfl (lv_at hl 0 rfl) ?_
        refine lv_ifnonnullN hx hb dX0_as_27 ?_
        refine lv_aload_n hx hb dX0_as_30 rfl (lv_at hl 1 rfl) ?_
        refine lv_iconst (v := 5) hx hb dX0_as_31 rfl ?_
        refine fc_V (As := [.int 5]) (rest := []) hx hb hml hown hts hX hC (m_X0_finding 5 (vin_b rfl)) (lw_V q472 q474 qs2 q108 q475) hdV_X0_finding ⟨rfl, rfl⟩ ⟨Nat.le_of_ble_eq_true rfl, Nat.le_of_ble_eq_true rfl⟩ (fx_recv (g := 5) (i := 0) (ci := 1) (q := (RX0, TX0, 13)) hX hC (cin rfl) rfl rfl) hl.1 rfl (Nat.le_of_ble_eq_true rfl) ⟨Nat.zero_le _, Nat.zero_le _⟩ dX0_as_32 (fun _ H locs hC => ?_)
        refine W.eq (g2 := F0 m 35 ls [.int (-1000006)]) rfl ?_
        have hs : s_as d fd spot kind = (((-1000006), p_find fd 5) : Int32 × Row) := by rw [s_as, if_pos ⟨c_2, c_5⟩, if_pos hn]
        exact fr_i hx hb hr hlocks hX hC (usp sp (ix spot) none) (congrArg (fun z => some (Value.int z)) (t2_1 hs)) (congrArg (fun z => cct G (pg d kp as un to sc z tp sh) (usp sp (ix spot) none)) (t2_2 hs)).symm dX0_as_35
      · have hk := hold_n0 hw hs hn
        rcases kind7' (hw.kind (ix (d (10 + ix spot))) (vin_lt hk)) with qk | qk | qk | qk | qk | qk | qk
        · refine lv_aload_n hx hb dX0_as_20 rfl (lv_at hl 0 rfl) ?_
          refine lv_iload_n hx hb dX0_as_21 rfl (lv_at hl 1 rfl) ?_
          refine fc_V (As := [.int spot]) (rest := []) hx hb hml hown hts hX hC (m_X0_thingAt_0 spot hs hn hk qk) (lw_V q1191 q1193 qs51 q108 q1194) hdV_X0_thingAt ⟨rfl, rfl⟩ ⟨Nat.le_of_ble_eq_true rfl, Nat.le_of_ble_eq_true rfl⟩ (fx_recv (g := 5) (i := 0) (ci := 1) (q := (RX0, TX0, 13)) hX hC (cin rfl) rfl rfl) hl.1 rfl (Nat.le_of_ble_eq_true rfl) ⟨Nat.zero_le _, Nat.zero_le _⟩ dX0_as_22 (fun _ H locs hC => ?_)
          refine W.eq (g2 := F0 m 25 ls [.ref (G.ad 20 (ix (d (10 + ix spot))))]) rfl ?_
          refine lv_astore_n (lv' := [(3, .ref (G.ad 20 (ix (d (10 + ix spot))))), (0, .ref (G.ad 5 0)), (1, .int spot), (2, .int kind)]) hx hb dX0_as_25 rfl hl (by decide) rfl (fun ls hl => ?_)
          refine lv_aload_n hx hb dX0_as_26 rfl (lv_at hl 0 rfl) ?_
          refine lv_ifnonnull (tgt := 36) hx hb dX0_as_27 (by decide) ?_
          refine lv_aload_n hx hb dX0_as_36 rfl (lv_at hl 0 rfl) ?_
          refine va_instE hx hb hown (hts _ q415) (fx_recv (g := 20) (i := (ix (d (10 + ix spot)))) (ci := 6) (q := (RX6, TX6, 2)) hX hC (cin (decide_eq_true (vin_lt hk))) rfl rfl) dX0_as_37 ?_
          refine lv_if_eq (tgt := 58) hx hb dX0_as_40 (by decide) (fun z_9 => absurd z_9 (by decide)) (fun _ => ?_)
          refine lv_aload_n hx hb dX0_as_43 rfl (lv_at hl 0 rfl) ?_
          refine va_castE hx hb hown (hts _ q415) (fx_recv (g := 20) (i := (ix (d (10 + ix spot)))) (ci := 6) (q := (RX6, TX6, 2)) hX hC (cin (decide_eq_true (vin_lt hk))) rfl rfl) dX0_as_44 ?_
          refine lv_iload_n hx hb dX0_as_47 rfl (lv_at hl 3 rfl) ?_
          refine fc_V (As := [.int kind]) (rest := []) hx hb hml hown hts hX hC (m_X6_isUnder_0 (ix (d (10 + ix spot))) (vin_lt hk) kind) (lw_V q1195 q1196 q1197 q117 q1214) hdV_X6_isUnder ⟨rfl, rfl⟩ ⟨Nat.le_of_ble_eq_true rfl, Nat.le_of_ble_eq_true rfl⟩ (fx_recv (g := 20) (i := (ix (d (10 + ix spot)))) (ci := 6) (q := (RX6, TX6, 2)) hX hC (cin (decide_eq_true (vin_lt hk))) rfl rfl) hl.1 rfl (Nat.le_of_ble_eq_true rfl) ⟨Nat.zero_le _, Nat.zero_le _⟩ dX0_as_48 (fun _ H locs hC => ?_)
          refine W.eq (g2 := F0 m 51 ls [.int (b2i (kind = 0 ∨ kind = 0))]) rfl ?_
          refine fb_eq (tgt := 58) hx hb dX0_as_51 (by decide) (fun c_11 => ?_) (fun c_11 => ?_)
          · refine lv_iconst (v := 0) hx hb dX0_as_58 rfl ?_
            refine lv_istore (lv' := [(4, .int 0), (3, .ref (G.ad 20 (ix (d (10 + ix spot))))), (0, .ref (G.ad 5 0)), (1, .int spot), (2, .int kind)]) hx hb dX0_as_59 hl (by decide) rfl (fun ls hl => ?_)
            refine lv_iload hx hb dX0_as_61 (lv_at hl 0 rfl) ?_
            refine lv_if_eq (tgt := 77) hx hb dX0_as_63 (by decide) (fun _ => ?_) (fun z_12 => absurd (by decide) z_12)
            refine lv_aload_n hx hb dX0_as_77 rfl (lv_at hl 2 rfl) ?_
            refine lv_iconst (v := 2) hx hb dX0_as_78 rfl ?_
            refine fc_V (As := [.int 2]) (rest := []) hx hb hml hown hts hX hC (m_X0_finding 2 (vin_b rfl)) (lw_V q472 q474 qs2 q108 q475) hdV_X0_finding ⟨rfl, rfl⟩ ⟨Nat.le_of_ble_eq_true rfl, Nat.le_of_ble_eq_true rfl⟩ (fx_recv (g := 5) (i := 0) (ci := 1) (q := (RX0, TX0, 13)) hX hC (cin rfl) rfl rfl) hl.1 rfl (Nat.le_of_ble_eq_true rfl) ⟨Nat.zero_le _, Nat.zero_le _⟩ dX0_as_79 (fun _ H locs hC => ?_)
            refine W.eq (g2 := F0 m 82 ls [.int (-1000003)]) rfl ?_
            have hs : s_as d fd spot kind = (((-1000003), p_find fd 2) : Int32 × Row) := by rw [s_as, if_pos ⟨c_2, c_5⟩, if_neg hn, if_neg (fun z => c_11 (under_all (n := 0) (fun o => o = 0 ∨ o = 0) (by decide) c_5 (by rw [qk] at z; exact z)))]
            exact fr_i hx hb hr hlocks hX hC (usp sp (ix spot) (some (G.ad 20 (ix (d (10 + ix spot)))))) (congrArg (fun z => some (Value.int z)) (t2_1 hs)) (congrArg (fun z => cct G (pg d kp as un to sc z tp sh) (usp sp (ix spot) (some (G.ad 20 (ix (d (10 + ix spot))))))) (t2_2 hs)).symm dX0_as_82
          · refine lv_iconst (v := 1) hx hb dX0_as_54 rfl ?_
            refine lv_goto (tgt := 59) hx hb dX0_as_55 (by decide) ?_
            refine lv_istore (lv' := [(4, .int 1), (3, .ref (G.ad 20 (ix (d (10 + ix spot))))), (0, .ref (G.ad 5 0)), (1, .int spot), (2, .int kind)]) hx hb dX0_as_59 hl (by decide) rfl (fun ls hl => ?_)
            refine lv_iload hx hb dX0_as_61 (lv_at hl 0 rfl) ?_
            refine lv_if_eq (tgt := 77) hx hb dX0_as_63 (by decide) (fun z_14 => absurd z_14 (by decide)) (fun _ => ?_)
            rcases c_11 with qq | qq
            · subst qq
              refine lv_aload_n hx hb dX0_as_66 rfl (lv_at hl 1 rfl) ?_
              refine lv_iload_n hx hb dX0_as_67 rfl (lv_at hl 4 rfl) ?_
              refine fc_S (As := [.ref (G.ad 20 (ix (d (10 + ix spot)))), .int 0]) (rest := []) hx hb hml hown hts hX hC (m_X0_cast_0_0 (ix (d (10 + ix spot))) (vin_lt hk)) (lw_S q1216 q1217 q108 q1218) hdS_X0_cast ⟨rfl, rfl⟩ ⟨Nat.le_of_ble_eq_true rfl, Nat.le_of_ble_eq_true rfl⟩ hl.1 rfl (Nat.le_of_ble_eq_true rfl) ⟨Nat.zero_le _, Nat.zero_le _⟩ dX0_as_68 (fun _ H locs hC => ?_)
              refine W.eq (g2 := F0 m 71 ls [.ref (G.ad 20 (ix (d (10 + ix spot))))]) rfl ?_
              refine fg_get (C := RX6) (T := TX6) (N := 2) (ci := 6) (g := 20) (i := (ix (d (10 + ix spot)))) (v := .int (nI (ix (d (10 + ix spot))))) hx hb hown hts hX hC in_X6 rfl (cin (decide_eq_true (vin_lt hk))) rfl 0 (by decide) q342 (fun _ h => h) rfl dX0_as_71 ?_
              refine lv_goto (tgt := 82) hx hb dX0_as_74 (by decide) ?_
              have hs : s_as d fd spot 0 = ((nI (ix (d (10 + ix spot))), fd) : Int32 × Row) := by rw [s_as, if_pos ⟨c_2, c_5⟩, if_neg hn, if_pos (by rw [qk]; decide), nI_ix8 hk]
              exact fr_i hx hb hr hlocks hX hC (usp sp (ix spot) (some (G.ad 20 (ix (d (10 + ix spot)))))) (congrArg (fun z => some (Value.int z)) (t2_1 hs)) (congrArg (fun z => cct G (pg d kp as un to sc z tp sh) (usp sp (ix spot) (some (G.ad 20 (ix (d (10 + ix spot))))))) (t2_2 hs)).symm dX0_as_82
            · subst qq
              refine lv_aload_n hx hb dX0_as_66 rfl (lv_at hl 1 rfl) ?_
              refine lv_iload_n hx hb dX0_as_67 rfl (lv_at hl 4 rfl) ?_
              refine fc_S (As := [.ref (G.ad 20 (ix (d (10 + ix spot)))), .int 0]) (rest := []) hx hb hml hown hts hX hC (m_X0_cast_0_0 (ix (d (10 + ix spot))) (vin_lt hk)) (lw_S q1216 q1217 q108 q1218) hdS_X0_cast ⟨rfl, rfl⟩ ⟨Nat.le_of_ble_eq_true rfl, Nat.le_of_ble_eq_true rfl⟩ hl.1 rfl (Nat.le_of_ble_eq_true rfl) ⟨Nat.zero_le _, Nat.zero_le _⟩ dX0_as_68 (fun _ H locs hC => ?_)
              refine W.eq (g2 := F0 m 71 ls [.ref (G.ad 20 (ix (d (10 + ix spot))))]) rfl ?_
              refine fg_get (C := RX6) (T := TX6) (N := 2) (ci := 6) (g := 20) (i := (ix (d (10 + ix spot)))) (v := .int (nI (ix (d (10 + ix spot))))) hx hb hown hts hX hC in_X6 rfl (cin (decide_eq_true (vin_lt hk))) rfl 0 (by decide) q342 (fun _ h => h) rfl dX0_as_71 ?_
              refine lv_goto (tgt := 82) hx hb dX0_as_74 (by decide) ?_
              have hs : s_as d fd spot 0 = ((nI (ix (d (10 + ix spot))), fd) : Int32 × Row) := by rw [s_as, if_pos ⟨c_2, c_5⟩, if_neg hn, if_pos (by rw [qk]; decide), nI_ix8 hk]
              exact fr_i hx hb hr hlocks hX hC (usp sp (ix spot) (some (G.ad 20 (ix (d (10 + ix spot)))))) (congrArg (fun z => some (Value.int z)) (t2_1 hs)) (congrArg (fun z => cct G (pg d kp as un to sc z tp sh) (usp sp (ix spot) (some (G.ad 20 (ix (d (10 + ix spot))))))) (t2_2 hs)).symm dX0_as_82
        · refine lv_aload_n hx hb dX0_as_20 rfl (lv_at hl 0 rfl) ?_
          refine lv_iload_n hx hb dX0_as_21 rfl (lv_at hl 1 rfl) ?_
          refine fc_V (As := [.int spot]) (rest := []) hx hb hml hown hts hX hC (m_X0_thingAt_1 spot hs hn hk qk) (lw_V q1191 q1193 qs51 q108 q1194) hdV_X0_thingAt ⟨rfl, rfl⟩ ⟨Nat.le_of_ble_eq_true rfl, Nat.le_of_ble_eq_true rfl⟩ (fx_recv (g := 5) (i := 0) (ci := 1) (q := (RX0, TX0, 13)) hX hC (cin rfl) rfl rfl) hl.1 rfl (Nat.le_of_ble_eq_true rfl) ⟨Nat.zero_le _, Nat.zero_le _⟩ dX0_as_22 (fun _ H locs hC => ?_)
          refine W.eq (g2 := F0 m 25 ls [.ref (G.ad 21 (ix (d (10 + ix spot))))]) rfl ?_
          refine lv_astore_n (lv' := [(3, .ref (G.ad 21 (ix (d (10 + ix spot))))), (0, .ref (G.ad 5 0)), (1, .int spot), (2, .int kind)]) hx hb dX0_as_25 rfl hl (by decide) rfl (fun ls hl => ?_)
          refine lv_aload_n hx hb dX0_as_26 rfl (lv_at hl 0 rfl) ?_
          refine lv_ifnonnull (tgt := 36) hx hb dX0_as_27 (by decide) ?_
          refine lv_aload_n hx hb dX0_as_36 rfl (lv_at hl 0 rfl) ?_
          refine va_instY (C := RX7) hx hb hown (hts _ q415) (hX.2.2.1.C q1888) (fx_recv (g := 21) (i := (ix (d (10 + ix spot)))) (ci := 7) (q := (RX7, TX7, 3)) hX hC (cin (decide_eq_true (vin_lt hk))) rfl rfl) dX0_as_37 ?_
          refine lv_if_eq (tgt := 58) hx hb dX0_as_40 (by decide) (fun z_18 => absurd z_18 (by decide)) (fun _ => ?_)
          refine lv_aload_n hx hb dX0_as_43 rfl (lv_at hl 0 rfl) ?_
          refine va_castY (C := RX7) hx hb hown (hts _ q415) (hX.2.2.1.C q1888) (fx_recv (g := 21) (i := (ix (d (10 + ix spot)))) (ci := 7) (q := (RX7, TX7, 3)) hX hC (cin (decide_eq_true (vin_lt hk))) rfl rfl) dX0_as_44 ?_
          refine lv_iload_n hx hb dX0_as_47 rfl (lv_at hl 3 rfl) ?_
          refine fc_O (C := RX7) (owner := "OwlEars$Strike") (x := ⟨"OwlEars$Strike", "isUnder", "(I)Z"⟩) (As := [.int kind]) (rest := []) hx hb hml hown hts hX hC (m_X7_isUnder_1 (ix (d (10 + ix spot))) (vin_lt hk) kind) (lw6 q1195 q1198 q1196 q1212 q1204 q118) q1205 q1214 (by refine ⟨by decide, by decide, ?_⟩; show _ = some 1; decide +kernel) ⟨rfl, rfl⟩ ⟨Nat.le_of_ble_eq_true rfl, Nat.le_of_ble_eq_true rfl⟩ (fx_recv (g := 21) (i := (ix (d (10 + ix spot)))) (ci := 7) (q := (RX7, TX7, 3)) hX hC (cin (decide_eq_true (vin_lt hk))) rfl rfl) hl.1 rfl (Nat.le_of_ble_eq_true rfl) ⟨Nat.zero_le _, Nat.zero_le _⟩ dX0_as_48 (fun _ H locs hC => ?_)
          refine W.eq (g2 := F0 m 51 ls [.int (b2i (kind = 1 ∨ kind = 0 ∨ kind = 1))]) rfl ?_
          refine fb_eq (tgt := 58) hx hb dX0_as_51 (by decide) (fun c_20 => ?_) (fun c_20 => ?_)
          · refine lv_iconst (v := 0) hx hb dX0_as_58 rfl ?_
            refine lv_istore (lv' := [(4, .int 0), (3, .ref (G.ad 21 (ix (d (10 + ix spot))))), (0, .ref (G.ad 5 0)), (1, .int spot), (2, .int kind)]) hx hb dX0_as_59 hl (by decide) rfl (fun ls hl => ?_)
            refine lv_iload hx hb dX0_as_61 (lv_at hl 0 rfl) ?_
            refine lv_if_eq (tgt := 77) hx hb dX0_as_63 (by decide) (fun _ => ?_) (fun z_21 => absurd (by decide) z_21)
            refine lv_aload_n hx hb dX0_as_77 rfl (lv_at hl 2 rfl) ?_
            refine lv_iconst (v := 2) hx hb dX0_as_78 rfl ?_
            refine fc_V (As := [.int 2]) (rest := []) hx hb hml hown hts hX hC (m_X0_finding 2 (vin_b rfl)) (lw_V q472 q474 qs2 q108 q475) hdV_X0_finding ⟨rfl, rfl⟩ ⟨Nat.le_of_ble_eq_true rfl, Nat.le_of_ble_eq_true rfl⟩ (fx_recv (g := 5) (i := 0) (ci := 1) (q := (RX0, TX0, 13)) hX hC (cin rfl) rfl rfl) hl.1 rfl (Nat.le_of_ble_eq_true rfl) ⟨Nat.zero_le _, Nat.zero_le _⟩ dX0_as_79 (fun _ H locs hC => ?_)
            refine W.eq (g2 := F0 m 82 ls [.int (-1000003)]) rfl ?_
            have hs : s_as d fd spot kind = (((-1000003), p_find fd 2) : Int32 × Row) := by rw [s_as, if_pos ⟨c_2, c_5⟩, if_neg hn, if_neg (fun z => c_20 (under_all (n := 1) (fun o => o = 1 ∨ o = 0 ∨ o = 1) (by decide) c_5 (by rw [qk] at z; exact z)))]
            exact fr_i hx hb hr hlocks hX hC (usp sp (ix spot) (some (G.ad 21 (ix (d (10 + ix spot)))))) (congrArg (fun z => some (Value.int z)) (t2_1 hs)) (congrArg (fun z => cct G (pg d kp as un to sc z tp sh) (usp sp (ix spot) (some (G.ad 21 (ix (d (10 + ix spot))))))) (t2_2 hs)).symm dX0_as_82
          · refine lv_iconst (v := 1) hx hb dX0_as_54 rfl ?_
            refine lv_goto (tgt := 59) hx hb dX0_as_55 (by decide) ?_
            refine lv_istore (lv' := [(4, .int 1), (3, .ref (G.ad 21 (ix (d (10 + ix spot))))), (0, .ref (G.ad 5 0)), (1, .int spot), (2, .int kind)]) hx hb dX0_as_59 hl (by decide) rfl (fun ls hl => ?_)
            refine lv_iload hx hb dX0_as_61 (lv_at hl 0 rfl) ?_
            refine lv_if_eq (tgt := 77) hx hb dX0_as_63 (by decide) (fun z_23 => absurd z_23 (by decide)) (fun _ => ?_)
            rcases c_20 with qq | qq | qq
            · subst qq
              refine lv_aload_n hx hb dX0_as_66 rfl (lv_at hl 1 rfl) ?_
              refine lv_iload_n hx hb dX0_as_67 rfl (lv_at hl 4 rfl) ?_
              refine fc_S (As := [.ref (G.ad 21 (ix (d (10 + ix spot)))), .int 1]) (rest := []) hx hb hml hown hts hX hC (m_X0_cast_1_1 (ix (d (10 + ix spot))) (vin_lt hk)) (lw_S q1216 q1217 q108 q1218) hdS_X0_cast ⟨rfl, rfl⟩ ⟨Nat.le_of_ble_eq_true rfl, Nat.le_of_ble_eq_true rfl⟩ hl.1 rfl (Nat.le_of_ble_eq_true rfl) ⟨Nat.zero_le _, Nat.zero_le _⟩ dX0_as_68 (fun _ H locs hC => ?_)
              refine W.eq (g2 := F0 m 71 ls [.ref (G.ad 21 (ix (d (10 + ix spot))))]) rfl ?_
              refine fg_get (C := RX7) (T := TX7) (N := 3) (ci := 7) (g := 21) (i := (ix (d (10 + ix spot)))) (v := .int (nI (ix (d (10 + ix spot))))) hx hb hown hts hX hC in_X7 rfl (cin (decide_eq_true (vin_lt hk))) rfl 0 (by decide) q342 (fun _ h => h) rfl dX0_as_71 ?_
              refine lv_goto (tgt := 82) hx hb dX0_as_74 (by decide) ?_
              have hs : s_as d fd spot 1 = ((nI (ix (d (10 + ix spot))), fd) : Int32 × Row) := by rw [s_as, if_pos ⟨c_2, c_5⟩, if_neg hn, if_pos (by rw [qk]; decide), nI_ix8 hk]
              exact fr_i hx hb hr hlocks hX hC (usp sp (ix spot) (some (G.ad 21 (ix (d (10 + ix spot)))))) (congrArg (fun z => some (Value.int z)) (t2_1 hs)) (congrArg (fun z => cct G (pg d kp as un to sc z tp sh) (usp sp (ix spot) (some (G.ad 21 (ix (d (10 + ix spot))))))) (t2_2 hs)).symm dX0_as_82
            · subst qq
              refine lv_aload_n hx hb dX0_as_66 rfl (lv_at hl 1 rfl) ?_
              refine lv_iload_n hx hb dX0_as_67 rfl (lv_at hl 4 rfl) ?_
              refine fc_S (As := [.ref (G.ad 21 (ix (d (10 + ix spot)))), .int 0]) (rest := []) hx hb hml hown hts hX hC (m_X0_cast_1_0 (ix (d (10 + ix spot))) (vin_lt hk)) (lw_S q1216 q1217 q108 q1218) hdS_X0_cast ⟨rfl, rfl⟩ ⟨Nat.le_of_ble_eq_true rfl, Nat.le_of_ble_eq_true rfl⟩ hl.1 rfl (Nat.le_of_ble_eq_true rfl) ⟨Nat.zero_le _, Nat.zero_le _⟩ dX0_as_68 (fun _ H locs hC => ?_)
              refine W.eq (g2 := F0 m 71 ls [.ref (G.ad 21 (ix (d (10 + ix spot))))]) rfl ?_
              refine fg_get (C := RX7) (T := TX7) (N := 3) (ci := 7) (g := 21) (i := (ix (d (10 + ix spot)))) (v := .int (nI (ix (d (10 + ix spot))))) hx hb hown hts hX hC in_X7 rfl (cin (decide_eq_true (vin_lt hk))) rfl 0 (by decide) q342 (fun _ h => h) rfl dX0_as_71 ?_
              refine lv_goto (tgt := 82) hx hb dX0_as_74 (by decide) ?_
              have hs : s_as d fd spot 0 = ((nI (ix (d (10 + ix spot))), fd) : Int32 × Row) := by rw [s_as, if_pos ⟨c_2, c_5⟩, if_neg hn, if_pos (by rw [qk]; decide), nI_ix8 hk]
              exact fr_i hx hb hr hlocks hX hC (usp sp (ix spot) (some (G.ad 21 (ix (d (10 + ix spot)))))) (congrArg (fun z => some (Value.int z)) (t2_1 hs)) (congrArg (fun z => cct G (pg d kp as un to sc z tp sh) (usp sp (ix spot) (some (G.ad 21 (ix (d (10 + ix spot))))))) (t2_2 hs)).symm dX0_as_82
            · subst qq
              refine lv_aload_n hx hb dX0_as_66 rfl (lv_at hl 1 rfl) ?_
              refine lv_iload_n hx hb dX0_as_67 rfl (lv_at hl 4 rfl) ?_
              refine fc_S (As := [.ref (G.ad 21 (ix (d (10 + ix spot)))), .int 1]) (rest := []) hx hb hml hown hts hX hC (m_X0_cast_1_1 (ix (d (10 + ix spot))) (vin_lt hk)) (lw_S q1216 q1217 q108 q1218) hdS_X0_cast ⟨rfl, rfl⟩ ⟨Nat.le_of_ble_eq_true rfl, Nat.le_of_ble_eq_true rfl⟩ hl.1 rfl (Nat.le_of_ble_eq_true rfl) ⟨Nat.zero_le _, Nat.zero_le _⟩ dX0_as_68 (fun _ H locs hC => ?_)
              refine W.eq (g2 := F0 m 71 ls [.ref (G.ad 21 (ix (d (10 + ix spot))))]) rfl ?_
              refine fg_get (C := RX7) (T := TX7) (N := 3) (ci := 7) (g := 21) (i := (ix (d (10 + ix spot)))) (v := .int (nI (ix (d (10 + ix spot))))) hx hb hown hts hX hC in_X7 rfl (cin (decide_eq_true (vin_lt hk))) rfl 0 (by decide) q342 (fun _ h => h) rfl dX0_as_71 ?_
              refine lv_goto (tgt := 82) hx hb dX0_as_74 (by decide) ?_
              have hs : s_as d fd spot 1 = ((nI (ix (d (10 + ix spot))), fd) : Int32 × Row) := by rw [s_as, if_pos ⟨c_2, c_5⟩, if_neg hn, if_pos (by rw [qk]; decide), nI_ix8 hk]
              exact fr_i hx hb hr hlocks hX hC (usp sp (ix spot) (some (G.ad 21 (ix (d (10 + ix spot)))))) (congrArg (fun z => some (Value.int z)) (t2_1 hs)) (congrArg (fun z => cct G (pg d kp as un to sc z tp sh) (usp sp (ix spot) (some (G.ad 21 (ix (d (10 + ix spot))))))) (t2_2 hs)).symm dX0_as_82
        · refine lv_aload_n hx hb dX0_as_20 rfl (lv_at hl 0 rfl) ?_
          refine lv_iload_n hx hb dX0_as_21 rfl (lv_at hl 1 rfl) ?_
          refine fc_V (As := [.int spot]) (rest := []) hx hb hml hown hts hX hC (m_X0_thingAt_2 spot hs hn hk qk) (lw_V q1191 q1193 qs51 q108 q1194) hdV_X0_thingAt ⟨rfl, rfl⟩ ⟨Nat.le_of_ble_eq_true rfl, Nat.le_of_ble_eq_true rfl⟩ (fx_recv (g := 5) (i := 0) (ci := 1) (q := (RX0, TX0, 13)) hX hC (cin rfl) rfl rfl) hl.1 rfl (Nat.le_of_ble_eq_true rfl) ⟨Nat.zero_le _, Nat.zero_le _⟩ dX0_as_22 (fun _ H locs hC => ?_)
          refine W.eq (g2 := F0 m 25 ls [.ref (G.ad 22 (ix (d (10 + ix spot))))]) rfl ?_
          refine lv_astore_n (lv' := [(3, .ref (G.ad 22 (ix (d (10 + ix spot))))), (0, .ref (G.ad 5 0)), (1, .int spot), (2, .int kind)]) hx hb dX0_as_25 rfl hl (by decide) rfl (fun ls hl => ?_)
          refine lv_aload_n hx hb dX0_as_26 rfl (lv_at hl 0 rfl) ?_
          refine lv_ifnonnull (tgt := 36) hx hb dX0_as_27 (by decide) ?_
          refine lv_aload_n hx hb dX0_as_36 rfl (lv_at hl 0 rfl) ?_
          refine va_instY (C := RX8) hx hb hown (hts _ q415) (hX.2.2.1.C q1884) (fx_recv (g := 22) (i := (ix (d (10 + ix spot)))) (ci := 8) (q := (RX8, TX8, 3)) hX hC (cin (decide_eq_true (vin_lt hk))) rfl rfl) dX0_as_37 ?_
          refine lv_if_eq (tgt := 58) hx hb dX0_as_40 (by decide) (fun z_28 => absurd z_28 (by decide)) (fun _ => ?_)
          refine lv_aload_n hx hb dX0_as_43 rfl (lv_at hl 0 rfl) ?_
          refine va_castY (C := RX8) hx hb hown (hts _ q415) (hX.2.2.1.C q1884) (fx_recv (g := 22) (i := (ix (d (10 + ix spot)))) (ci := 8) (q := (RX8, TX8, 3)) hX hC (cin (decide_eq_true (vin_lt hk))) rfl rfl) dX0_as_44 ?_
          refine lv_iload_n hx hb dX0_as_47 rfl (lv_at hl 3 rfl) ?_
          refine fc_O (C := RX8) (owner := "OwlEars$Strike") (x := ⟨"OwlEars$Strike", "isUnder", "(I)Z"⟩) (As := [.int kind]) (rest := []) hx hb hml hown hts hX hC (m_X8_isUnder_2 (ix (d (10 + ix spot))) (vin_lt hk) kind) (lw6 q1195 q1198 q1196 q1199 q1200 q119) q1201 q1214 (by refine ⟨by decide, by decide, ?_⟩; show _ = some 1; decide +kernel) ⟨rfl, rfl⟩ ⟨Nat.le_of_ble_eq_true rfl, Nat.le_of_ble_eq_true rfl⟩ (fx_recv (g := 22) (i := (ix (d (10 + ix spot)))) (ci := 8) (q := (RX8, TX8, 3)) hX hC (cin (decide_eq_true (vin_lt hk))) rfl rfl) hl.1 rfl (Nat.le_of_ble_eq_true rfl) ⟨Nat.zero_le _, Nat.zero_le _⟩ dX0_as_48 (fun _ H locs hC => ?_)
          refine W.eq (g2 := F0 m 51 ls [.int (b2i (kind = 2 ∨ kind = 0 ∨ kind = 2))]) rfl ?_
          refine fb_eq (tgt := 58) hx hb dX0_as_51 (by decide) (fun c_30 => ?_) (fun c_30 => ?_)
          · refine lv_iconst (v := 0) hx hb dX0_as_58 rfl ?_
            refine lv_istore (lv' := [(4, .int 0), (3, .ref (G.ad 22 (ix (d (10 + ix spot))))), (0, .ref (G.ad 5 0)), (1, .int spot), (2, .int kind)]) hx hb dX0_as_59 hl (by decide) rfl (fun ls hl => ?_)
            refine lv_iload hx hb dX0_as_61 (lv_at hl 0 rfl) ?_
            refine lv_if_eq (tgt := 77) hx hb dX0_as_63 (by decide) (fun _ => ?_) (fun z_31 => absurd (by decide) z_31)
            refine lv_aload_n hx hb dX0_as_77 rfl (lv_at hl 2 rfl) ?_
            refine lv_iconst (v := 2) hx hb dX0_as_78 rfl ?_
            refine fc_V (As := [.int 2]) (rest := []) hx hb hml hown hts hX hC (m_X0_finding 2 (vin_b rfl)) (lw_V q472 q474 qs2 q108 q475) hdV_X0_finding ⟨rfl, rfl⟩ ⟨Nat.le_of_ble_eq_true rfl, Nat.le_of_ble_eq_true rfl⟩ (fx_recv (g := 5) (i := 0) (ci := 1) (q := (RX0, TX0, 13)) hX hC (cin rfl) rfl rfl) hl.1 rfl (Nat.le_of_ble_eq_true rfl) ⟨Nat.zero_le _, Nat.zero_le _⟩ dX0_as_79 (fun _ H locs hC => ?_)
            refine W.eq (g2 := F0 m 82 ls [.int (-1000003)]) rfl ?_
            have hs : s_as d fd spot kind = (((-1000003), p_find fd 2) : Int32 × Row) := by rw [s_as, if_pos ⟨c_2, c_5⟩, if_neg hn, if_neg (fun z => c_30 (under_all (n := 2) (fun o => o = 2 ∨ o = 0 ∨ o = 2) (by decide) c_5 (by rw [qk] at z; exact z)))]
            exact fr_i hx hb hr hlocks hX hC (usp sp (ix spot) (some (G.ad 22 (ix (d (10 + ix spot)))))) (congrArg (fun z => some (Value.int z)) (t2_1 hs)) (congrArg (fun z => cct G (pg d kp as un to sc z tp sh) (usp sp (ix spot) (some (G.ad 22 (ix (d (10 + ix spot))))))) (t2_2 hs)).symm dX0_as_82
          · refine lv_iconst (v := 1) hx hb dX0_as_54 rfl ?_
            refine lv_goto (tgt := 59) hx hb dX0_as_55 (by decide) ?_
            refine lv_istore (lv' := [(4, .int 1), (3, .ref (G.ad 22 (ix (d (10 + ix spot))))), (0, .ref (G.ad 5 0)), (1, .int spot), (2, .int kind)]) hx hb dX0_as_59 hl (by decide) rfl (fun ls hl => ?_)
            refine lv_iload hx hb dX0_as_61 (lv_at hl 0 rfl) ?_
            refine lv_if_eq (tgt := 77) hx hb dX0_as_63 (by decide) (fun z_33 => absurd z_33 (by decide)) (fun _ => ?_)
            rcases c_30 with qq | qq | qq
            · subst qq
              refine lv_aload_n hx hb dX0_as_66 rfl (lv_at hl 1 rfl) ?_
              refine lv_iload_n hx hb dX0_as_67 rfl (lv_at hl 4 rfl) ?_
              refine fc_S (As := [.ref (G.ad 22 (ix (d (10 + ix spot)))), .int 2]) (rest := []) hx hb hml hown hts hX hC (m_X0_cast_2_2 (ix (d (10 + ix spot))) (vin_lt hk)) (lw_S q1216 q1217 q108 q1218) hdS_X0_cast ⟨rfl, rfl⟩ ⟨Nat.le_of_ble_eq_true rfl, Nat.le_of_ble_eq_true rfl⟩ hl.1 rfl (Nat.le_of_ble_eq_true rfl) ⟨Nat.zero_le _, Nat.zero_le _⟩ dX0_as_68 (fun _ H locs hC => ?_)
              refine W.eq (g2 := F0 m 71 ls [.ref (G.ad 22 (ix (d (10 + ix spot))))]) rfl ?_
              refine fg_get (C := RX8) (T := TX8) (N := 3) (ci := 8) (g := 22) (i := (ix (d (10 + ix spot)))) (v := .int (nI (ix (d (10 + ix spot))))) hx hb hown hts hX hC in_X8 rfl (cin (decide_eq_true (vin_lt hk))) rfl 0 (by decide) q342 (fun _ h => h) rfl dX0_as_71 ?_
              refine lv_goto (tgt := 82) hx hb dX0_as_74 (by decide) ?_
              have hs : s_as d fd spot 2 = ((nI (ix (d (10 + ix spot))), fd) : Int32 × Row) := by rw [s_as, if_pos ⟨c_2, c_5⟩, if_neg hn, if_pos (by rw [qk]; decide), nI_ix8 hk]
              exact fr_i hx hb hr hlocks hX hC (usp sp (ix spot) (some (G.ad 22 (ix (d (10 + ix spot)))))) (congrArg (fun z => some (Value.int z)) (t2_1 hs)) (congrArg (fun z => cct G (pg d kp as un to sc z tp sh) (usp sp (ix spot) (some (G.ad 22 (ix (d (10 + ix spot))))))) (t2_2 hs)).symm dX0_as_82
            · subst qq
              refine lv_aload_n hx hb dX0_as_66 rfl (lv_at hl 1 rfl) ?_
              refine lv_iload_n hx hb dX0_as_67 rfl (lv_at hl 4 rfl) ?_
              refine fc_S (As := [.ref (G.ad 22 (ix (d (10 + ix spot)))), .int 0]) (rest := []) hx hb hml hown hts hX hC (m_X0_cast_2_0 (ix (d (10 + ix spot))) (vin_lt hk)) (lw_S q1216 q1217 q108 q1218) hdS_X0_cast ⟨rfl, rfl⟩ ⟨Nat.le_of_ble_eq_true rfl, Nat.le_of_ble_eq_true rfl⟩ hl.1 rfl (Nat.le_of_ble_eq_true rfl) ⟨Nat.zero_le _, Nat.zero_le _⟩ dX0_as_68 (fun _ H locs hC => ?_)
              refine W.eq (g2 := F0 m 71 ls [.ref (G.ad 22 (ix (d (10 + ix spot))))]) rfl ?_
              refine fg_get (C := RX8) (T := TX8) (N := 3) (ci := 8) (g := 22) (i := (ix (d (10 + ix spot)))) (v := .int (nI (ix (d (10 + ix spot))))) hx hb hown hts hX hC in_X8 rfl (cin (decide_eq_true (vin_lt hk))) rfl 0 (by decide) q342 (fun _ h => h) rfl dX0_as_71 ?_
              refine lv_goto (tgt := 82) hx hb dX0_as_74 (by decide) ?_
              have hs : s_as d fd spot 0 = ((nI (ix (d (10 + ix spot))), fd) : Int32 × Row) := by rw [s_as, if_pos ⟨c_2, c_5⟩, if_neg hn, if_pos (by rw [qk]; decide), nI_ix8 hk]
              exact fr_i hx hb hr hlocks hX hC (usp sp (ix spot) (some (G.ad 22 (ix (d (10 + ix spot)))))) (congrArg (fun z => some (Value.int z)) (t2_1 hs)) (congrArg (fun z => cct G (pg d kp as un to sc z tp sh) (usp sp (ix spot) (some (G.ad 22 (ix (d (10 + ix spot))))))) (t2_2 hs)).symm dX0_as_82
            · subst qq
              refine lv_aload_n hx hb dX0_as_66 rfl (lv_at hl 1 rfl) ?_
              refine lv_iload_n hx hb dX0_as_67 rfl (lv_at hl 4 rfl) ?_
              refine fc_S (As := [.ref (G.ad 22 (ix (d (10 + ix spot)))), .int 2]) (rest := []) hx hb hml hown hts hX hC (m_X0_cast_2_2 (ix (d (10 + ix spot))) (vin_lt hk)) (lw_S q1216 q1217 q108 q1218) hdS_X0_cast ⟨rfl, rfl⟩ ⟨Nat.le_of_ble_eq_true rfl, Nat.le_of_ble_eq_true rfl⟩ hl.1 rfl (Nat.le_of_ble_eq_true rfl) ⟨Nat.zero_le _, Nat.zero_le _⟩ dX0_as_68 (fun _ H locs hC => ?_)
              refine W.eq (g2 := F0 m 71 ls [.ref (G.ad 22 (ix (d (10 + ix spot))))]) rfl ?_
              refine fg_get (C := RX8) (T := TX8) (N := 3) (ci := 8) (g := 22) (i := (ix (d (10 + ix spot)))) (v := .int (nI (ix (d (10 + ix spot))))) hx hb hown hts hX hC in_X8 rfl (cin (decide_eq_true (vin_lt hk))) rfl 0 (by decide) q342 (fun _ h => h) rfl dX0_as_71 ?_
              refine lv_goto (tgt := 82) hx hb dX0_as_74 (by decide) ?_
              have hs : s_as d fd spot 2 = ((nI (ix (d (10 + ix spot))), fd) : Int32 × Row) := by rw [s_as, if_pos ⟨c_2, c_5⟩, if_neg hn, if_pos (by rw [qk]; decide), nI_ix8 hk]
              exact fr_i hx hb hr hlocks hX hC (usp sp (ix spot) (some (G.ad 22 (ix (d (10 + ix spot)))))) (congrArg (fun z => some (Value.int z)) (t2_1 hs)) (congrArg (fun z => cct G (pg d kp as un to sc z tp sh) (usp sp (ix spot) (some (G.ad 22 (ix (d (10 + ix spot))))))) (t2_2 hs)).symm dX0_as_82
        · refine lv_aload_n hx hb dX0_as_20 rfl (lv_at hl 0 rfl) ?_
          refine lv_iload_n hx hb dX0_as_21 rfl (lv_at hl 1 rfl) ?_
          refine fc_V (As := [.int spot]) (rest := []) hx hb hml hown hts hX hC (m_X0_thingAt_3 spot hs hn hk qk) (lw_V q1191 q1193 qs51 q108 q1194) hdV_X0_thingAt ⟨rfl, rfl⟩ ⟨Nat.le_of_ble_eq_true rfl, Nat.le_of_ble_eq_true rfl⟩ (fx_recv (g := 5) (i := 0) (ci := 1) (q := (RX0, TX0, 13)) hX hC (cin rfl) rfl rfl) hl.1 rfl (Nat.le_of_ble_eq_true rfl) ⟨Nat.zero_le _, Nat.zero_le _⟩ dX0_as_22 (fun _ H locs hC => ?_)
          refine W.eq (g2 := F0 m 25 ls [.ref (G.ad 23 (ix (d (10 + ix spot))))]) rfl ?_
          refine lv_astore_n (lv' := [(3, .ref (G.ad 23 (ix (d (10 + ix spot))))), (0, .ref (G.ad 5 0)), (1, .int spot), (2, .int kind)]) hx hb dX0_as_25 rfl hl (by decide) rfl (fun ls hl => ?_)
          refine lv_aload_n hx hb dX0_as_26 rfl (lv_at hl 0 rfl) ?_
          refine lv_ifnonnull (tgt := 36) hx hb dX0_as_27 (by decide) ?_
          refine lv_aload_n hx hb dX0_as_36 rfl (lv_at hl 0 rfl) ?_
          refine va_instY (C := RX9) hx hb hown (hts _ q415) (hX.2.2.1.C q1886) (fx_recv (g := 23) (i := (ix (d (10 + ix spot)))) (ci := 9) (q := (RX9, TX9, 4)) hX hC (cin (decide_eq_true (vin_lt hk))) rfl rfl) dX0_as_37 ?_
          refine lv_if_eq (tgt := 58) hx hb dX0_as_40 (by decide) (fun z_38 => absurd z_38 (by decide)) (fun _ => ?_)
          refine lv_aload_n hx hb dX0_as_43 rfl (lv_at hl 0 rfl) ?_
          refine va_castY (C := RX9) hx hb hown (hts _ q415) (hX.2.2.1.C q1886) (fx_recv (g := 23) (i := (ix (d (10 + ix spot)))) (ci := 9) (q := (RX9, TX9, 4)) hX hC (cin (decide_eq_true (vin_lt hk))) rfl rfl) dX0_as_44 ?_
          refine lv_iload_n hx hb dX0_as_47 rfl (lv_at hl 3 rfl) ?_
          refine fc_O (C := RX9) (owner := "OwlEars$Strike") (x := ⟨"OwlEars$Strike", "isUnder", "(I)Z"⟩) (As := [.int kind]) (rest := []) hx hb hml hown hts hX hC (m_X9_isUnder_3 (ix (d (10 + ix spot))) (vin_lt hk) kind) (lw6 q1195 q1198 q1196 q1207 q1208 q120) q1209 q1214 (by refine ⟨by decide, by decide, ?_⟩; show _ = some 1; decide +kernel) ⟨rfl, rfl⟩ ⟨Nat.le_of_ble_eq_true rfl, Nat.le_of_ble_eq_true rfl⟩ (fx_recv (g := 23) (i := (ix (d (10 + ix spot)))) (ci := 9) (q := (RX9, TX9, 4)) hX hC (cin (decide_eq_true (vin_lt hk))) rfl rfl) hl.1 rfl (Nat.le_of_ble_eq_true rfl) ⟨Nat.zero_le _, Nat.zero_le _⟩ dX0_as_48 (fun _ H locs hC => ?_)
          refine W.eq (g2 := F0 m 51 ls [.int (b2i (kind = 3 ∨ kind = 2 ∨ kind = 0 ∨ kind = 3))]) rfl ?_
          refine fb_eq (tgt := 58) hx hb dX0_as_51 (by decide) (fun c_40 => ?_) (fun c_40 => ?_)
          · refine lv_iconst (v := 0) hx hb dX0_as_58 rfl ?_
            refine lv_istore (lv' := [(4, .int 0), (3, .ref (G.ad 23 (ix (d (10 + ix spot))))), (0, .ref (G.ad 5 0)), (1, .int spot), (2, .int kind)]) hx hb dX0_as_59 hl (by decide) rfl (fun ls hl => ?_)
            refine lv_iload hx hb dX0_as_61 (lv_at hl 0 rfl) ?_
            refine lv_if_eq (tgt := 77) hx hb dX0_as_63 (by decide) (fun _ => ?_) (fun z_41 => absurd (by decide) z_41)
            refine lv_aload_n hx hb dX0_as_77 rfl (lv_at hl 2 rfl) ?_
            refine lv_iconst (v := 2) hx hb dX0_as_78 rfl ?_
            refine fc_V (As := [.int 2]) (rest := []) hx hb hml hown hts hX hC (m_X0_finding 2 (vin_b rfl)) (lw_V q472 q474 qs2 q108 q475) hdV_X0_finding ⟨rfl, rfl⟩ ⟨Nat.le_of_ble_eq_true rfl, Nat.le_of_ble_eq_true rfl⟩ (fx_recv (g := 5) (i := 0) (ci := 1) (q := (RX0, TX0, 13)) hX hC (cin rfl) rfl rfl) hl.1 rfl (Nat.le_of_ble_eq_true rfl) ⟨Nat.zero_le _, Nat.zero_le _⟩ dX0_as_79 (fun _ H locs hC => ?_)
            refine W.eq (g2 := F0 m 82 ls [.int (-1000003)]) rfl ?_
            have hs : s_as d fd spot kind = (((-1000003), p_find fd 2) : Int32 × Row) := by rw [s_as, if_pos ⟨c_2, c_5⟩, if_neg hn, if_neg (fun z => c_40 (under_all (n := 3) (fun o => o = 3 ∨ o = 2 ∨ o = 0 ∨ o = 3) (by decide) c_5 (by rw [qk] at z; exact z)))]
            exact fr_i hx hb hr hlocks hX hC (usp sp (ix spot) (some (G.ad 23 (ix (d (10 + ix spot)))))) (congrArg (fun z => some (Value.int z)) (t2_1 hs)) (congrArg (fun z => cct G (pg d kp as un to sc z tp sh) (usp sp (ix spot) (some (G.ad 23 (ix (d (10 + ix spot))))))) (t2_2 hs)).symm dX0_as_82
          · refine lv_iconst (v := 1) hx hb dX0_as_54 rfl ?_
            refine lv_goto (tgt := 59) hx hb dX0_as_55 (by decide) ?_
            refine lv_istore (lv' := [(4, .int 1), (3, .ref (G.ad 23 (ix (d (10 + ix spot))))), (0, .ref (G.ad 5 0)), (1, .int spot), (2, .int kind)]) hx hb dX0_as_59 hl (by decide) rfl (fun ls hl => ?_)
            refine lv_iload hx hb dX0_as_61 (lv_at hl 0 rfl) ?_
            refine lv_if_eq (tgt := 77) hx hb dX0_as_63 (by decide) (fun z_43 => absurd z_43 (by decide)) (fun _ => ?_)
            rcases c_40 with qq | qq | qq | qq
            · subst qq
              refine lv_aload_n hx hb dX0_as_66 rfl (lv_at hl 1 rfl) ?_
              refine lv_iload_n hx hb dX0_as_67 rfl (lv_at hl 4 rfl) ?_
              refine fc_S (As := [.ref (G.ad 23 (ix (d (10 + ix spot)))), .int 3]) (rest := []) hx hb hml hown hts hX hC (m_X0_cast_3_3 (ix (d (10 + ix spot))) (vin_lt hk)) (lw_S q1216 q1217 q108 q1218) hdS_X0_cast ⟨rfl, rfl⟩ ⟨Nat.le_of_ble_eq_true rfl, Nat.le_of_ble_eq_true rfl⟩ hl.1 rfl (Nat.le_of_ble_eq_true rfl) ⟨Nat.zero_le _, Nat.zero_le _⟩ dX0_as_68 (fun _ H locs hC => ?_)
              refine W.eq (g2 := F0 m 71 ls [.ref (G.ad 23 (ix (d (10 + ix spot))))]) rfl ?_
              refine fg_get (C := RX9) (T := TX9) (N := 4) (ci := 9) (g := 23) (i := (ix (d (10 + ix spot)))) (v := .int (nI (ix (d (10 + ix spot))))) hx hb hown hts hX hC in_X9 rfl (cin (decide_eq_true (vin_lt hk))) rfl 0 (by decide) q342 (fun _ h => h) rfl dX0_as_71 ?_
              refine lv_goto (tgt := 82) hx hb dX0_as_74 (by decide) ?_
              have hs : s_as d fd spot 3 = ((nI (ix (d (10 + ix spot))), fd) : Int32 × Row) := by rw [s_as, if_pos ⟨c_2, c_5⟩, if_neg hn, if_pos (by rw [qk]; decide), nI_ix8 hk]
              exact fr_i hx hb hr hlocks hX hC (usp sp (ix spot) (some (G.ad 23 (ix (d (10 + ix spot)))))) (congrArg (fun z => some (Value.int z)) (t2_1 hs)) (congrArg (fun z => cct G (pg d kp as un to sc z tp sh) (usp sp (ix spot) (some (G.ad 23 (ix (d (10 + ix spot))))))) (t2_2 hs)).symm dX0_as_82
            · subst qq
              refine lv_aload_n hx hb dX0_as_66 rfl (lv_at hl 1 rfl) ?_
              refine lv_iload_n hx hb dX0_as_67 rfl (lv_at hl 4 rfl) ?_
              refine fc_S (As := [.ref (G.ad 23 (ix (d (10 + ix spot)))), .int 2]) (rest := []) hx hb hml hown hts hX hC (m_X0_cast_3_2 (ix (d (10 + ix spot))) (vin_lt hk)) (lw_S q1216 q1217 q108 q1218) hdS_X0_cast ⟨rfl, rfl⟩ ⟨Nat.le_of_ble_eq_true rfl, Nat.le_of_ble_eq_true rfl⟩ hl.1 rfl (Nat.le_of_ble_eq_true rfl) ⟨Nat.zero_le _, Nat.zero_le _⟩ dX0_as_68 (fun _ H locs hC => ?_)
              refine W.eq (g2 := F0 m 71 ls [.ref (G.ad 23 (ix (d (10 + ix spot))))]) rfl ?_
              refine fg_get (C := RX9) (T := TX9) (N := 4) (ci := 9) (g := 23) (i := (ix (d (10 + ix spot)))) (v := .int (nI (ix (d (10 + ix spot))))) hx hb hown hts hX hC in_X9 rfl (cin (decide_eq_true (vin_lt hk))) rfl 0 (by decide) q342 (fun _ h => h) rfl dX0_as_71 ?_
              refine lv_goto (tgt := 82) hx hb dX0_as_74 (by decide) ?_
              have hs : s_as d fd spot 2 = ((nI (ix (d (10 + ix spot))), fd) : Int32 × Row) := by rw [s_as, if_pos ⟨c_2, c_5⟩, if_neg hn, if_pos (by rw [qk]; decide), nI_ix8 hk]
              exact fr_i hx hb hr hlocks hX hC (usp sp (ix spot) (some (G.ad 23 (ix (d (10 + ix spot)))))) (congrArg (fun z => some (Value.int z)) (t2_1 hs)) (congrArg (fun z => cct G (pg d kp as un to sc z tp sh) (usp sp (ix spot) (some (G.ad 23 (ix (d (10 + ix spot))))))) (t2_2 hs)).symm dX0_as_82
            · subst qq
              refine lv_aload_n hx hb dX0_as_66 rfl (lv_at hl 1 rfl) ?_
              refine lv_iload_n hx hb dX0_as_67 rfl (lv_at hl 4 rfl) ?_
              refine fc_S (As := [.ref (G.ad 23 (ix (d (10 + ix spot)))), .int 0]) (rest := []) hx hb hml hown hts hX hC (m_X0_cast_3_0 (ix (d (10 + ix spot))) (vin_lt hk)) (lw_S q1216 q1217 q108 q1218) hdS_X0_cast ⟨rfl, rfl⟩ ⟨Nat.le_of_ble_eq_true rfl, Nat.le_of_ble_eq_true rfl⟩ hl.1 rfl (Nat.le_of_ble_eq_true rfl) ⟨Nat.zero_le _, Nat.zero_le _⟩ dX0_as_68 (fun _ H locs hC => ?_)
              refine W.eq (g2 := F0 m 71 ls [.ref (G.ad 23 (ix (d (10 + ix spot))))]) rfl ?_
              refine fg_get (C := RX9) (T := TX9) (N := 4) (ci := 9) (g := 23) (i := (ix (d (10 + ix spot)))) (v := .int (nI (ix (d (10 + ix spot))))) hx hb hown hts hX hC in_X9 rfl (cin (decide_eq_true (vin_lt hk))) rfl 0 (by decide) q342 (fun _ h => h) rfl dX0_as_71 ?_
              refine lv_goto (tgt := 82) hx hb dX0_as_74 (by decide) ?_
              have hs : s_as d fd spot 0 = ((nI (ix (d (10 + ix spot))), fd) : Int32 × Row) := by rw [s_as, if_pos ⟨c_2, c_5⟩, if_neg hn, if_pos (by rw [qk]; decide), nI_ix8 hk]
              exact fr_i hx hb hr hlocks hX hC (usp sp (ix spot) (some (G.ad 23 (ix (d (10 + ix spot)))))) (congrArg (fun z => some (Value.int z)) (t2_1 hs)) (congrArg (fun z => cct G (pg d kp as un to sc z tp sh) (usp sp (ix spot) (some (G.ad 23 (ix (d (10 + ix spot))))))) (t2_2 hs)).symm dX0_as_82
            · subst qq
              refine lv_aload_n hx hb dX0_as_66 rfl (lv_at hl 1 rfl) ?_
              refine lv_iload_n hx hb dX0_as_67 rfl (lv_at hl 4 rfl) ?_
              refine fc_S (As := [.ref (G.ad 23 (ix (d (10 + ix spot)))), .int 3]) (rest := []) hx hb hml hown hts hX hC (m_X0_cast_3_3 (ix (d (10 + ix spot))) (vin_lt hk)) (lw_S q1216 q1217 q108 q1218) hdS_X0_cast ⟨rfl, rfl⟩ ⟨Nat.le_of_ble_eq_true rfl, Nat.le_of_ble_eq_true rfl⟩ hl.1 rfl (Nat.le_of_ble_eq_true rfl) ⟨Nat.zero_le _, Nat.zero_le _⟩ dX0_as_68 (fun _ H locs hC => ?_)
              refine W.eq (g2 := F0 m 71 ls [.ref (G.ad 23 (ix (d (10 + ix spot))))]) rfl ?_
              refine fg_get (C := RX9) (T := TX9) (N := 4) (ci := 9) (g := 23) (i := (ix (d (10 + ix spot)))) (v := .int (nI (ix (d (10 + ix spot))))) hx hb hown hts hX hC in_X9 rfl (cin (decide_eq_true (vin_lt hk))) rfl 0 (by decide) q342 (fun _ h => h) rfl dX0_as_71 ?_
              refine lv_goto (tgt := 82) hx hb dX0_as_74 (by decide) ?_
              have hs : s_as d fd spot 3 = ((nI (ix (d (10 + ix spot))), fd) : Int32 × Row) := by rw [s_as, if_pos ⟨c_2, c_5⟩, if_neg hn, if_pos (by rw [qk]; decide), nI_ix8 hk]
              exact fr_i hx hb hr hlocks hX hC (usp sp (ix spot) (some (G.ad 23 (ix (d (10 + ix spot)))))) (congrArg (fun z => some (Value.int z)) (t2_1 hs)) (congrArg (fun z => cct G (pg d kp as un to sc z tp sh) (usp sp (ix spot) (some (G.ad 23 (ix (d (10 + ix spot))))))) (t2_2 hs)).symm dX0_as_82
        · refine lv_aload_n hx hb dX0_as_20 rfl (lv_at hl 0 rfl) ?_
          refine lv_iload_n hx hb dX0_as_21 rfl (lv_at hl 1 rfl) ?_
          refine fc_V (As := [.int spot]) (rest := []) hx hb hml hown hts hX hC (m_X0_thingAt_4 spot hs hn hk qk) (lw_V q1191 q1193 qs51 q108 q1194) hdV_X0_thingAt ⟨rfl, rfl⟩ ⟨Nat.le_of_ble_eq_true rfl, Nat.le_of_ble_eq_true rfl⟩ (fx_recv (g := 5) (i := 0) (ci := 1) (q := (RX0, TX0, 13)) hX hC (cin rfl) rfl rfl) hl.1 rfl (Nat.le_of_ble_eq_true rfl) ⟨Nat.zero_le _, Nat.zero_le _⟩ dX0_as_22 (fun _ H locs hC => ?_)
          refine W.eq (g2 := F0 m 25 ls [.ref (G.ad 24 (ix (d (10 + ix spot))))]) rfl ?_
          refine lv_astore_n (lv' := [(3, .ref (G.ad 24 (ix (d (10 + ix spot))))), (0, .ref (G.ad 5 0)), (1, .int spot), (2, .int kind)]) hx hb dX0_as_25 rfl hl (by decide) rfl (fun ls hl => ?_)
          refine lv_aload_n hx hb dX0_as_26 rfl (lv_at hl 0 rfl) ?_
          refine lv_ifnonnull (tgt := 36) hx hb dX0_as_27 (by decide) ?_
          refine lv_aload_n hx hb dX0_as_36 rfl (lv_at hl 0 rfl) ?_
          refine va_instY (C := RX10) hx hb hown (hts _ q415) (hX.2.2.1.C q1889) (fx_recv (g := 24) (i := (ix (d (10 + ix spot)))) (ci := 10) (q := (RX10, TX10, 5)) hX hC (cin (decide_eq_true (vin_lt hk))) rfl rfl) dX0_as_37 ?_
          refine lv_if_eq (tgt := 58) hx hb dX0_as_40 (by decide) (fun z_49 => absurd z_49 (by decide)) (fun _ => ?_)
          refine lv_aload_n hx hb dX0_as_43 rfl (lv_at hl 0 rfl) ?_
          refine va_castY (C := RX10) hx hb hown (hts _ q415) (hX.2.2.1.C q1889) (fx_recv (g := 24) (i := (ix (d (10 + ix spot)))) (ci := 10) (q := (RX10, TX10, 5)) hX hC (cin (decide_eq_true (vin_lt hk))) rfl rfl) dX0_as_44 ?_
          refine lv_iload_n hx hb dX0_as_47 rfl (lv_at hl 3 rfl) ?_
          refine fc_O (C := RX10) (owner := "OwlEars$Strike") (x := ⟨"OwlEars$Strike", "isUnder", "(I)Z"⟩) (As := [.int kind]) (rest := []) hx hb hml hown hts hX hC (m_X9_isUnder_4 (ix (d (10 + ix spot))) (vin_lt hk) kind) (lw6 q1195 q1198 q1196 q1213 q1208 q120) q1209 q1214 (by refine ⟨by decide, by decide, ?_⟩; show _ = some 1; decide +kernel) ⟨rfl, rfl⟩ ⟨Nat.le_of_ble_eq_true rfl, Nat.le_of_ble_eq_true rfl⟩ (fx_recv (g := 24) (i := (ix (d (10 + ix spot)))) (ci := 10) (q := (RX10, TX10, 5)) hX hC (cin (decide_eq_true (vin_lt hk))) rfl rfl) hl.1 rfl (Nat.le_of_ble_eq_true rfl) ⟨Nat.zero_le _, Nat.zero_le _⟩ dX0_as_48 (fun _ H locs hC => ?_)
          refine W.eq (g2 := F0 m 51 ls [.int (b2i (kind = 3 ∨ kind = 2 ∨ kind = 0 ∨ kind = 4))]) rfl ?_
          refine fb_eq (tgt := 58) hx hb dX0_as_51 (by decide) (fun c_51 => ?_) (fun c_51 => ?_)
          · refine lv_iconst (v := 0) hx hb dX0_as_58 rfl ?_
            refine lv_istore (lv' := [(4, .int 0), (3, .ref (G.ad 24 (ix (d (10 + ix spot))))), (0, .ref (G.ad 5 0)), (1, .int spot), (2, .int kind)]) hx hb dX0_as_59 hl (by decide) rfl (fun ls hl => ?_)
            refine lv_iload hx hb dX0_as_61 (lv_at hl 0 rfl) ?_
            refine lv_if_eq (tgt := 77) hx hb dX0_as_63 (by decide) (fun _ => ?_) (fun z_52 => absurd (by decide) z_52)
            refine lv_aload_n hx hb dX0_as_77 rfl (lv_at hl 2 rfl) ?_
            refine lv_iconst (v := 2) hx hb dX0_as_78 rfl ?_
            refine fc_V (As := [.int 2]) (rest := []) hx hb hml hown hts hX hC (m_X0_finding 2 (vin_b rfl)) (lw_V q472 q474 qs2 q108 q475) hdV_X0_finding ⟨rfl, rfl⟩ ⟨Nat.le_of_ble_eq_true rfl, Nat.le_of_ble_eq_true rfl⟩ (fx_recv (g := 5) (i := 0) (ci := 1) (q := (RX0, TX0, 13)) hX hC (cin rfl) rfl rfl) hl.1 rfl (Nat.le_of_ble_eq_true rfl) ⟨Nat.zero_le _, Nat.zero_le _⟩ dX0_as_79 (fun _ H locs hC => ?_)
            refine W.eq (g2 := F0 m 82 ls [.int (-1000003)]) rfl ?_
            have hs : s_as d fd spot kind = (((-1000003), p_find fd 2) : Int32 × Row) := by rw [s_as, if_pos ⟨c_2, c_5⟩, if_neg hn, if_neg (fun z => c_51 (under_all (n := 4) (fun o => o = 3 ∨ o = 2 ∨ o = 0 ∨ o = 4) (by decide) c_5 (by rw [qk] at z; exact z)))]
            exact fr_i hx hb hr hlocks hX hC (usp sp (ix spot) (some (G.ad 24 (ix (d (10 + ix spot)))))) (congrArg (fun z => some (Value.int z)) (t2_1 hs)) (congrArg (fun z => cct G (pg d kp as un to sc z tp sh) (usp sp (ix spot) (some (G.ad 24 (ix (d (10 + ix spot))))))) (t2_2 hs)).symm dX0_as_82
          · refine lv_iconst (v := 1) hx hb dX0_as_54 rfl ?_
            refine lv_goto (tgt := 59) hx hb dX0_as_55 (by decide) ?_
            refine lv_istore (lv' := [(4, .int 1), (3, .ref (G.ad 24 (ix (d (10 + ix spot))))), (0, .ref (G.ad 5 0)), (1, .int spot), (2, .int kind)]) hx hb dX0_as_59 hl (by decide) rfl (fun ls hl => ?_)
            refine lv_iload hx hb dX0_as_61 (lv_at hl 0 rfl) ?_
            refine lv_if_eq (tgt := 77) hx hb dX0_as_63 (by decide) (fun z_54 => absurd z_54 (by decide)) (fun _ => ?_)
            rcases c_51 with qq | qq | qq | qq
            · subst qq
              refine lv_aload_n hx hb dX0_as_66 rfl (lv_at hl 1 rfl) ?_
              refine lv_iload_n hx hb dX0_as_67 rfl (lv_at hl 4 rfl) ?_
              refine fc_S (As := [.ref (G.ad 24 (ix (d (10 + ix spot)))), .int 3]) (rest := []) hx hb hml hown hts hX hC (m_X0_cast_4_3 (ix (d (10 + ix spot))) (vin_lt hk)) (lw_S q1216 q1217 q108 q1218) hdS_X0_cast ⟨rfl, rfl⟩ ⟨Nat.le_of_ble_eq_true rfl, Nat.le_of_ble_eq_true rfl⟩ hl.1 rfl (Nat.le_of_ble_eq_true rfl) ⟨Nat.zero_le _, Nat.zero_le _⟩ dX0_as_68 (fun _ H locs hC => ?_)
              refine W.eq (g2 := F0 m 71 ls [.ref (G.ad 24 (ix (d (10 + ix spot))))]) rfl ?_
              refine fg_get (C := RX10) (T := TX10) (N := 5) (ci := 10) (g := 24) (i := (ix (d (10 + ix spot)))) (v := .int (nI (ix (d (10 + ix spot))))) hx hb hown hts hX hC in_X10 rfl (cin (decide_eq_true (vin_lt hk))) rfl 0 (by decide) q342 (fun _ h => h) rfl dX0_as_71 ?_
              refine lv_goto (tgt := 82) hx hb dX0_as_74 (by decide) ?_
              have hs : s_as d fd spot 3 = ((nI (ix (d (10 + ix spot))), fd) : Int32 × Row) := by rw [s_as, if_pos ⟨c_2, c_5⟩, if_neg hn, if_pos (by rw [qk]; decide), nI_ix8 hk]
              exact fr_i hx hb hr hlocks hX hC (usp sp (ix spot) (some (G.ad 24 (ix (d (10 + ix spot)))))) (congrArg (fun z => some (Value.int z)) (t2_1 hs)) (congrArg (fun z => cct G (pg d kp as un to sc z tp sh) (usp sp (ix spot) (some (G.ad 24 (ix (d (10 + ix spot))))))) (t2_2 hs)).symm dX0_as_82
            · subst qq
              refine lv_aload_n hx hb dX0_as_66 rfl (lv_at hl 1 rfl) ?_
              refine lv_iload_n hx hb dX0_as_67 rfl (lv_at hl 4 rfl) ?_
              refine fc_S (As := [.ref (G.ad 24 (ix (d (10 + ix spot)))), .int 2]) (rest := []) hx hb hml hown hts hX hC (m_X0_cast_4_2 (ix (d (10 + ix spot))) (vin_lt hk)) (lw_S q1216 q1217 q108 q1218) hdS_X0_cast ⟨rfl, rfl⟩ ⟨Nat.le_of_ble_eq_true rfl, Nat.le_of_ble_eq_true rfl⟩ hl.1 rfl (Nat.le_of_ble_eq_true rfl) ⟨Nat.zero_le _, Nat.zero_le _⟩ dX0_as_68 (fun _ H locs hC => ?_)
              refine W.eq (g2 := F0 m 71 ls [.ref (G.ad 24 (ix (d (10 + ix spot))))]) rfl ?_
              refine fg_get (C := RX10) (T := TX10) (N := 5) (ci := 10) (g := 24) (i := (ix (d (10 + ix spot)))) (v := .int (nI (ix (d (10 + ix spot))))) hx hb hown hts hX hC in_X10 rfl (cin (decide_eq_true (vin_lt hk))) rfl 0 (by decide) q342 (fun _ h => h) rfl dX0_as_71 ?_
              refine lv_goto (tgt := 82) hx hb dX0_as_74 (by decide) ?_
              have hs : s_as d fd spot 2 = ((nI (ix (d (10 + ix spot))), fd) : Int32 × Row) := by rw [s_as, if_pos ⟨c_2, c_5⟩, if_neg hn, if_pos (by rw [qk]; decide), nI_ix8 hk]
              exact fr_i hx hb hr hlocks hX hC (usp sp (ix spot) (some (G.ad 24 (ix (d (10 + ix spot)))))) (congrArg (fun z => some (Value.int z)) (t2_1 hs)) (congrArg (fun z => cct G (pg d kp as un to sc z tp sh) (usp sp (ix spot) (some (G.ad 24 (ix (d (10 + ix spot))))))) (t2_2 hs)).symm dX0_as_82
            · subst qq
              refine lv_aload_n hx hb dX0_as_66 rfl (lv_at hl 1 rfl) ?_
              refine lv_iload_n hx hb dX0_as_67 rfl (lv_at hl 4 rfl) ?_
              refine fc_S (As := [.ref (G.ad 24 (ix (d (10 + ix spot)))), .int 0]) (rest := []) hx hb hml hown hts hX hC (m_X0_cast_4_0 (ix (d (10 + ix spot))) (vin_lt hk)) (lw_S q1216 q1217 q108 q1218) hdS_X0_cast ⟨rfl, rfl⟩ ⟨Nat.le_of_ble_eq_true rfl, Nat.le_of_ble_eq_true rfl⟩ hl.1 rfl (Nat.le_of_ble_eq_true rfl) ⟨Nat.zero_le _, Nat.zero_le _⟩ dX0_as_68 (fun _ H locs hC => ?_)
              refine W.eq (g2 := F0 m 71 ls [.ref (G.ad 24 (ix (d (10 + ix spot))))]) rfl ?_
              refine fg_get (C := RX10) (T := TX10) (N := 5) (ci := 10) (g := 24) (i := (ix (d (10 + ix spot)))) (v := .int (nI (ix (d (10 + ix spot))))) hx hb hown hts hX hC in_X10 rfl (cin (decide_eq_true (vin_lt hk))) rfl 0 (by decide) q342 (fun _ h => h) rfl dX0_as_71 ?_
              refine lv_goto (tgt := 82) hx hb dX0_as_74 (by decide) ?_
              have hs : s_as d fd spot 0 = ((nI (ix (d (10 + ix spot))), fd) : Int32 × Row) := by rw [s_as, if_pos ⟨c_2, c_5⟩, if_neg hn, if_pos (by rw [qk]; decide), nI_ix8 hk]
              exact fr_i hx hb hr hlocks hX hC (usp sp (ix spot) (some (G.ad 24 (ix (d (10 + ix spot)))))) (congrArg (fun z => some (Value.int z)) (t2_1 hs)) (congrArg (fun z => cct G (pg d kp as un to sc z tp sh) (usp sp (ix spot) (some (G.ad 24 (ix (d (10 + ix spot))))))) (t2_2 hs)).symm dX0_as_82
            · subst qq
              refine lv_aload_n hx hb dX0_as_66 rfl (lv_at hl 1 rfl) ?_
              refine lv_iload_n hx hb dX0_as_67 rfl (lv_at hl 4 rfl) ?_
              refine fc_S (As := [.ref (G.ad 24 (ix (d (10 + ix spot)))), .int 4]) (rest := []) hx hb hml hown hts hX hC (m_X0_cast_4_4 (ix (d (10 + ix spot))) (vin_lt hk)) (lw_S q1216 q1217 q108 q1218) hdS_X0_cast ⟨rfl, rfl⟩ ⟨Nat.le_of_ble_eq_true rfl, Nat.le_of_ble_eq_true rfl⟩ hl.1 rfl (Nat.le_of_ble_eq_true rfl) ⟨Nat.zero_le _, Nat.zero_le _⟩ dX0_as_68 (fun _ H locs hC => ?_)
              refine W.eq (g2 := F0 m 71 ls [.ref (G.ad 24 (ix (d (10 + ix spot))))]) rfl ?_
              refine fg_get (C := RX10) (T := TX10) (N := 5) (ci := 10) (g := 24) (i := (ix (d (10 + ix spot)))) (v := .int (nI (ix (d (10 + ix spot))))) hx hb hown hts hX hC in_X10 rfl (cin (decide_eq_true (vin_lt hk))) rfl 0 (by decide) q342 (fun _ h => h) rfl dX0_as_71 ?_
              refine lv_goto (tgt := 82) hx hb dX0_as_74 (by decide) ?_
              have hs : s_as d fd spot 4 = ((nI (ix (d (10 + ix spot))), fd) : Int32 × Row) := by rw [s_as, if_pos ⟨c_2, c_5⟩, if_neg hn, if_pos (by rw [qk]; decide), nI_ix8 hk]
              exact fr_i hx hb hr hlocks hX hC (usp sp (ix spot) (some (G.ad 24 (ix (d (10 + ix spot)))))) (congrArg (fun z => some (Value.int z)) (t2_1 hs)) (congrArg (fun z => cct G (pg d kp as un to sc z tp sh) (usp sp (ix spot) (some (G.ad 24 (ix (d (10 + ix spot))))))) (t2_2 hs)).symm dX0_as_82
        · refine lv_aload_n hx hb dX0_as_20 rfl (lv_at hl 0 rfl) ?_
          refine lv_iload_n hx hb dX0_as_21 rfl (lv_at hl 1 rfl) ?_
          refine fc_V (As := [.int spot]) (rest := []) hx hb hml hown hts hX hC (m_X0_thingAt_5 spot hs hn hk qk) (lw_V q1191 q1193 qs51 q108 q1194) hdV_X0_thingAt ⟨rfl, rfl⟩ ⟨Nat.le_of_ble_eq_true rfl, Nat.le_of_ble_eq_true rfl⟩ (fx_recv (g := 5) (i := 0) (ci := 1) (q := (RX0, TX0, 13)) hX hC (cin rfl) rfl rfl) hl.1 rfl (Nat.le_of_ble_eq_true rfl) ⟨Nat.zero_le _, Nat.zero_le _⟩ dX0_as_22 (fun _ H locs hC => ?_)
          refine W.eq (g2 := F0 m 25 ls [.ref (G.ad 25 (ix (d (10 + ix spot))))]) rfl ?_
          refine lv_astore_n (lv' := [(3, .ref (G.ad 25 (ix (d (10 + ix spot))))), (0, .ref (G.ad 5 0)), (1, .int spot), (2, .int kind)]) hx hb dX0_as_25 rfl hl (by decide) rfl (fun ls hl => ?_)
          refine lv_aload_n hx hb dX0_as_26 rfl (lv_at hl 0 rfl) ?_
          refine lv_ifnonnull (tgt := 36) hx hb dX0_as_27 (by decide) ?_
          refine lv_aload_n hx hb dX0_as_36 rfl (lv_at hl 0 rfl) ?_
          refine va_instY (C := RX11) hx hb hown (hts _ q415) (hX.2.2.1.C q1887) (fx_recv (g := 25) (i := (ix (d (10 + ix spot)))) (ci := 11) (q := (RX11, TX11, 3)) hX hC (cin (decide_eq_true (vin_lt hk))) rfl rfl) dX0_as_37 ?_
          refine lv_if_eq (tgt := 58) hx hb dX0_as_40 (by decide) (fun z_60 => absurd z_60 (by decide)) (fun _ => ?_)
          refine lv_aload_n hx hb dX0_as_43 rfl (lv_at hl 0 rfl) ?_
          refine va_castY (C := RX11) hx hb hown (hts _ q415) (hX.2.2.1.C q1887) (fx_recv (g := 25) (i := (ix (d (10 + ix spot)))) (ci := 11) (q := (RX11, TX11, 3)) hX hC (cin (decide_eq_true (vin_lt hk))) rfl rfl) dX0_as_44 ?_
          refine lv_iload_n hx hb dX0_as_47 rfl (lv_at hl 3 rfl) ?_
          refine fc_U (C := RX11) (owner := "OwlEars$Strike") (x := ⟨"OwlEars$Strike", "isUnder", "(I)Z"⟩) (As := [.int kind]) (rest := []) hx hb hml hown hts hX hC (m_X6_isUnder_5 (ix (d (10 + ix spot))) (vin_lt hk) kind) (lw5 q1195 q1198 q1211 q1196 q117) q1214 rfl (by refine ⟨by decide, by decide, ?_⟩; show _ = some 1; decide +kernel) ⟨rfl, rfl⟩ ⟨Nat.le_of_ble_eq_true rfl, Nat.le_of_ble_eq_true rfl⟩ (fx_recv (g := 25) (i := (ix (d (10 + ix spot)))) (ci := 11) (q := (RX11, TX11, 3)) hX hC (cin (decide_eq_true (vin_lt hk))) rfl rfl) hl.1 rfl (Nat.le_of_ble_eq_true rfl) ⟨Nat.zero_le _, Nat.zero_le _⟩ dX0_as_48 (fun _ H locs hC => ?_)
          refine W.eq (g2 := F0 m 51 ls [.int (b2i (kind = 0 ∨ kind = 5))]) rfl ?_
          refine fb_eq (tgt := 58) hx hb dX0_as_51 (by decide) (fun c_62 => ?_) (fun c_62 => ?_)
          · refine lv_iconst (v := 0) hx hb dX0_as_58 rfl ?_
            refine lv_istore (lv' := [(4, .int 0), (3, .ref (G.ad 25 (ix (d (10 + ix spot))))), (0, .ref (G.ad 5 0)), (1, .int spot), (2, .int kind)]) hx hb dX0_as_59 hl (by decide) rfl (fun ls hl => ?_)
            refine lv_iload hx hb dX0_as_61 (lv_at hl 0 rfl) ?_
            refine lv_if_eq (tgt := 77) hx hb dX0_as_63 (by decide) (fun _ => ?_) (fun z_63 => absurd (by decide) z_63)
            refine lv_aload_n hx hb dX0_as_77 rfl (lv_at hl 2 rfl) ?_
            refine lv_iconst (v := 2) hx hb dX0_as_78 rfl ?_
            refine fc_V (As := [.int 2]) (rest := []) hx hb hml hown hts hX hC (m_X0_finding 2 (vin_b rfl)) (lw_V q472 q474 qs2 q108 q475) hdV_X0_finding ⟨rfl, rfl⟩ ⟨Nat.le_of_ble_eq_true rfl, Nat.le_of_ble_eq_true rfl⟩ (fx_recv (g := 5) (i := 0) (ci := 1) (q := (RX0, TX0, 13)) hX hC (cin rfl) rfl rfl) hl.1 rfl (Nat.le_of_ble_eq_true rfl) ⟨Nat.zero_le _, Nat.zero_le _⟩ dX0_as_79 (fun _ H locs hC => ?_)
            refine W.eq (g2 := F0 m 82 ls [.int (-1000003)]) rfl ?_
            have hs : s_as d fd spot kind = (((-1000003), p_find fd 2) : Int32 × Row) := by rw [s_as, if_pos ⟨c_2, c_5⟩, if_neg hn, if_neg (fun z => c_62 (under_all (n := 5) (fun o => o = 0 ∨ o = 5) (by decide) c_5 (by rw [qk] at z; exact z)))]
            exact fr_i hx hb hr hlocks hX hC (usp sp (ix spot) (some (G.ad 25 (ix (d (10 + ix spot)))))) (congrArg (fun z => some (Value.int z)) (t2_1 hs)) (congrArg (fun z => cct G (pg d kp as un to sc z tp sh) (usp sp (ix spot) (some (G.ad 25 (ix (d (10 + ix spot))))))) (t2_2 hs)).symm dX0_as_82
          · refine lv_iconst (v := 1) hx hb dX0_as_54 rfl ?_
            refine lv_goto (tgt := 59) hx hb dX0_as_55 (by decide) ?_
            refine lv_istore (lv' := [(4, .int 1), (3, .ref (G.ad 25 (ix (d (10 + ix spot))))), (0, .ref (G.ad 5 0)), (1, .int spot), (2, .int kind)]) hx hb dX0_as_59 hl (by decide) rfl (fun ls hl => ?_)
            refine lv_iload hx hb dX0_as_61 (lv_at hl 0 rfl) ?_
            refine lv_if_eq (tgt := 77) hx hb dX0_as_63 (by decide) (fun z_65 => absurd z_65 (by decide)) (fun _ => ?_)
            rcases c_62 with qq | qq
            · subst qq
              refine lv_aload_n hx hb dX0_as_66 rfl (lv_at hl 1 rfl) ?_
              refine lv_iload_n hx hb dX0_as_67 rfl (lv_at hl 4 rfl) ?_
              refine fc_S (As := [.ref (G.ad 25 (ix (d (10 + ix spot)))), .int 0]) (rest := []) hx hb hml hown hts hX hC (m_X0_cast_5_0 (ix (d (10 + ix spot))) (vin_lt hk)) (lw_S q1216 q1217 q108 q1218) hdS_X0_cast ⟨rfl, rfl⟩ ⟨Nat.le_of_ble_eq_true rfl, Nat.le_of_ble_eq_true rfl⟩ hl.1 rfl (Nat.le_of_ble_eq_true rfl) ⟨Nat.zero_le _, Nat.zero_le _⟩ dX0_as_68 (fun _ H locs hC => ?_)
              refine W.eq (g2 := F0 m 71 ls [.ref (G.ad 25 (ix (d (10 + ix spot))))]) rfl ?_
              refine fg_get (C := RX11) (T := TX11) (N := 3) (ci := 11) (g := 25) (i := (ix (d (10 + ix spot)))) (v := .int (nI (ix (d (10 + ix spot))))) hx hb hown hts hX hC in_X11 rfl (cin (decide_eq_true (vin_lt hk))) rfl 0 (by decide) q342 (fun _ h => h) rfl dX0_as_71 ?_
              refine lv_goto (tgt := 82) hx hb dX0_as_74 (by decide) ?_
              have hs : s_as d fd spot 0 = ((nI (ix (d (10 + ix spot))), fd) : Int32 × Row) := by rw [s_as, if_pos ⟨c_2, c_5⟩, if_neg hn, if_pos (by rw [qk]; decide), nI_ix8 hk]
              exact fr_i hx hb hr hlocks hX hC (usp sp (ix spot) (some (G.ad 25 (ix (d (10 + ix spot)))))) (congrArg (fun z => some (Value.int z)) (t2_1 hs)) (congrArg (fun z => cct G (pg d kp as un to sc z tp sh) (usp sp (ix spot) (some (G.ad 25 (ix (d (10 + ix spot))))))) (t2_2 hs)).symm dX0_as_82
            · subst qq
              refine lv_aload_n hx hb dX0_as_66 rfl (lv_at hl 1 rfl) ?_
              refine lv_iload_n hx hb dX0_as_67 rfl (lv_at hl 4 rfl) ?_
              refine fc_S (As := [.ref (G.ad 25 (ix (d (10 + ix spot)))), .int 5]) (rest := []) hx hb hml hown hts hX hC (m_X0_cast_5_5 (ix (d (10 + ix spot))) (vin_lt hk)) (lw_S q1216 q1217 q108 q1218) hdS_X0_cast ⟨rfl, rfl⟩ ⟨Nat.le_of_ble_eq_true rfl, Nat.le_of_ble_eq_true rfl⟩ hl.1 rfl (Nat.le_of_ble_eq_true rfl) ⟨Nat.zero_le _, Nat.zero_le _⟩ dX0_as_68 (fun _ H locs hC => ?_)
              refine W.eq (g2 := F0 m 71 ls [.ref (G.ad 25 (ix (d (10 + ix spot))))]) rfl ?_
              refine fg_get (C := RX11) (T := TX11) (N := 3) (ci := 11) (g := 25) (i := (ix (d (10 + ix spot)))) (v := .int (nI (ix (d (10 + ix spot))))) hx hb hown hts hX hC in_X11 rfl (cin (decide_eq_true (vin_lt hk))) rfl 0 (by decide) q342 (fun _ h => h) rfl dX0_as_71 ?_
              refine lv_goto (tgt := 82) hx hb dX0_as_74 (by decide) ?_
              have hs : s_as d fd spot 5 = ((nI (ix (d (10 + ix spot))), fd) : Int32 × Row) := by rw [s_as, if_pos ⟨c_2, c_5⟩, if_neg hn, if_pos (by rw [qk]; decide), nI_ix8 hk]
              exact fr_i hx hb hr hlocks hX hC (usp sp (ix spot) (some (G.ad 25 (ix (d (10 + ix spot)))))) (congrArg (fun z => some (Value.int z)) (t2_1 hs)) (congrArg (fun z => cct G (pg d kp as un to sc z tp sh) (usp sp (ix spot) (some (G.ad 25 (ix (d (10 + ix spot))))))) (t2_2 hs)).symm dX0_as_82
        · refine lv_aload_n hx hb dX0_as_20 rfl (lv_at hl 0 rfl) ?_
          refine lv_iload_n hx hb dX0_as_21 rfl (lv_at hl 1 rfl) ?_
          refine fc_V (As := [.int spot]) (rest := []) hx hb hml hown hts hX hC (m_X0_thingAt_6 spot hs hn hk qk) (lw_V q1191 q1193 qs51 q108 q1194) hdV_X0_thingAt ⟨rfl, rfl⟩ ⟨Nat.le_of_ble_eq_true rfl, Nat.le_of_ble_eq_true rfl⟩ (fx_recv (g := 5) (i := 0) (ci := 1) (q := (RX0, TX0, 13)) hX hC (cin rfl) rfl rfl) hl.1 rfl (Nat.le_of_ble_eq_true rfl) ⟨Nat.zero_le _, Nat.zero_le _⟩ dX0_as_22 (fun _ H locs hC => ?_)
          refine W.eq (g2 := F0 m 25 ls [.ref (G.ad 26 (ix (d (10 + ix spot))))]) rfl ?_
          refine lv_astore_n (lv' := [(3, .ref (G.ad 26 (ix (d (10 + ix spot))))), (0, .ref (G.ad 5 0)), (1, .int spot), (2, .int kind)]) hx hb dX0_as_25 rfl hl (by decide) rfl (fun ls hl => ?_)
          refine lv_aload_n hx hb dX0_as_26 rfl (lv_at hl 0 rfl) ?_
          refine lv_ifnonnull (tgt := 36) hx hb dX0_as_27 (by decide) ?_
          refine lv_aload_n hx hb dX0_as_36 rfl (lv_at hl 0 rfl) ?_
          refine va_instY (C := RX12) hx hb hown (hts _ q415) (hX.2.2.1.C q1885) (fx_recv (g := 26) (i := (ix (d (10 + ix spot)))) (ci := 12) (q := (RX12, TX12, 4)) hX hC (cin (decide_eq_true (vin_lt hk))) rfl rfl) dX0_as_37 ?_
          refine lv_if_eq (tgt := 58) hx hb dX0_as_40 (by decide) (fun z_69 => absurd z_69 (by decide)) (fun _ => ?_)
          refine lv_aload_n hx hb dX0_as_43 rfl (lv_at hl 0 rfl) ?_
          refine va_castY (C := RX12) hx hb hown (hts _ q415) (hX.2.2.1.C q1885) (fx_recv (g := 26) (i := (ix (d (10 + ix spot)))) (ci := 12) (q := (RX12, TX12, 4)) hX hC (cin (decide_eq_true (vin_lt hk))) rfl rfl) dX0_as_44 ?_
          refine lv_iload_n hx hb dX0_as_47 rfl (lv_at hl 3 rfl) ?_
          refine fc_O (C := RX12) (owner := "OwlEars$Strike") (x := ⟨"OwlEars$Strike", "isUnder", "(I)Z"⟩) (As := [.int kind]) (rest := []) hx hb hml hown hts hX hC (m_X7_isUnder_6 (ix (d (10 + ix spot))) (vin_lt hk) kind) (lw6 q1195 q1198 q1196 q1203 q1204 q118) q1205 q1214 (by refine ⟨by decide, by decide, ?_⟩; show _ = some 1; decide +kernel) ⟨rfl, rfl⟩ ⟨Nat.le_of_ble_eq_true rfl, Nat.le_of_ble_eq_true rfl⟩ (fx_recv (g := 26) (i := (ix (d (10 + ix spot)))) (ci := 12) (q := (RX12, TX12, 4)) hX hC (cin (decide_eq_true (vin_lt hk))) rfl rfl) hl.1 rfl (Nat.le_of_ble_eq_true rfl) ⟨Nat.zero_le _, Nat.zero_le _⟩ dX0_as_48 (fun _ H locs hC => ?_)
          refine W.eq (g2 := F0 m 51 ls [.int (b2i (kind = 1 ∨ kind = 0 ∨ kind = 6))]) rfl ?_
          refine fb_eq (tgt := 58) hx hb dX0_as_51 (by decide) (fun c_71 => ?_) (fun c_71 => ?_)
          · refine lv_iconst (v := 0) hx hb dX0_as_58 rfl ?_
            refine lv_istore (lv' := [(4, .int 0), (3, .ref (G.ad 26 (ix (d (10 + ix spot))))), (0, .ref (G.ad 5 0)), (1, .int spot), (2, .int kind)]) hx hb dX0_as_59 hl (by decide) rfl (fun ls hl => ?_)
            refine lv_iload hx hb dX0_as_61 (lv_at hl 0 rfl) ?_
            refine lv_if_eq (tgt := 77) hx hb dX0_as_63 (by decide) (fun _ => ?_) (fun z_72 => absurd (by decide) z_72)
            refine lv_aload_n hx hb dX0_as_77 rfl (lv_at hl 2 rfl) ?_
            refine lv_iconst (v := 2) hx hb dX0_as_78 rfl ?_
            refine fc_V (As := [.int 2]) (rest := []) hx hb hml hown hts hX hC (m_X0_finding 2 (vin_b rfl)) (lw_V q472 q474 qs2 q108 q475) hdV_X0_finding ⟨rfl, rfl⟩ ⟨Nat.le_of_ble_eq_true rfl, Nat.le_of_ble_eq_true rfl⟩ (fx_recv (g := 5) (i := 0) (ci := 1) (q := (RX0, TX0, 13)) hX hC (cin rfl) rfl rfl) hl.1 rfl (Nat.le_of_ble_eq_true rfl) ⟨Nat.zero_le _, Nat.zero_le _⟩ dX0_as_79 (fun _ H locs hC => ?_)
            refine W.eq (g2 := F0 m 82 ls [.int (-1000003)]) rfl ?_
            have hs : s_as d fd spot kind = (((-1000003), p_find fd 2) : Int32 × Row) := by rw [s_as, if_pos ⟨c_2, c_5⟩, if_neg hn, if_neg (fun z => c_71 (under_all (n := 6) (fun o => o = 1 ∨ o = 0 ∨ o = 6) (by decide) c_5 (by rw [qk] at z; exact z)))]
            exact fr_i hx hb hr hlocks hX hC (usp sp (ix spot) (some (G.ad 26 (ix (d (10 + ix spot)))))) (congrArg (fun z => some (Value.int z)) (t2_1 hs)) (congrArg (fun z => cct G (pg d kp as un to sc z tp sh) (usp sp (ix spot) (some (G.ad 26 (ix (d (10 + ix spot))))))) (t2_2 hs)).symm dX0_as_82
          · refine lv_iconst (v := 1) hx hb dX0_as_54 rfl ?_
            refine lv_goto (tgt := 59) hx hb dX0_as_55 (by decide) ?_
            refine lv_istore (lv' := [(4, .int 1), (3, .ref (G.ad 26 (ix (d (10 + ix spot))))), (0, .ref (G.ad 5 0)), (1, .int spot), (2, .int kind)]) hx hb dX0_as_59 hl (by decide) rfl (fun ls hl => ?_)
            refine lv_iload hx hb dX0_as_61 (lv_at hl 0 rfl) ?_
            refine lv_if_eq (tgt := 77) hx hb dX0_as_63 (by decide) (fun z_74 => absurd z_74 (by decide)) (fun _ => ?_)
            rcases c_71 with qq | qq | qq
            · subst qq
              refine lv_aload_n hx hb dX0_as_66 rfl (lv_at hl 1 rfl) ?_
              refine lv_iload_n hx hb dX0_as_67 rfl (lv_at hl 4 rfl) ?_
              refine fc_S (As := [.ref (G.ad 26 (ix (d (10 + ix spot)))), .int 1]) (rest := []) hx hb hml hown hts hX hC (m_X0_cast_6_1 (ix (d (10 + ix spot))) (vin_lt hk)) (lw_S q1216 q1217 q108 q1218) hdS_X0_cast ⟨rfl, rfl⟩ ⟨Nat.le_of_ble_eq_true rfl, Nat.le_of_ble_eq_true rfl⟩ hl.1 rfl (Nat.le_of_ble_eq_true rfl) ⟨Nat.zero_le _, Nat.zero_le _⟩ dX0_as_68 (fun _ H locs hC => ?_)
              refine W.eq (g2 := F0 m 71 ls [.ref (G.ad 26 (ix (d (10 + ix spot))))]) rfl ?_
              refine fg_get (C := RX12) (T := TX12) (N := 4) (ci := 12) (g := 26) (i := (ix (d (10 + ix spot)))) (v := .int (nI (ix (d (10 + ix spot))))) hx hb hown hts hX hC in_X12 rfl (cin (decide_eq_true (vin_lt hk))) rfl 0 (by decide) q342 (fun _ h => h) rfl dX0_as_71 ?_
              refine lv_goto (tgt := 82) hx hb dX0_as_74 (by decide) ?_
              have hs : s_as d fd spot 1 = ((nI (ix (d (10 + ix spot))), fd) : Int32 × Row) := by rw [s_as, if_pos ⟨c_2, c_5⟩, if_neg hn, if_pos (by rw [qk]; decide), nI_ix8 hk]
              exact fr_i hx hb hr hlocks hX hC (usp sp (ix spot) (some (G.ad 26 (ix (d (10 + ix spot)))))) (congrArg (fun z => some (Value.int z)) (t2_1 hs)) (congrArg (fun z => cct G (pg d kp as un to sc z tp sh) (usp sp (ix spot) (some (G.ad 26 (ix (d (10 + ix spot))))))) (t2_2 hs)).symm dX0_as_82
            · subst qq
              refine lv_aload_n hx hb dX0_as_66 rfl (lv_at hl 1 rfl) ?_
              refine lv_iload_n hx hb dX0_as_67 rfl (lv_at hl 4 rfl) ?_
              refine fc_S (As := [.ref (G.ad 26 (ix (d (10 + ix spot)))), .int 0]) (rest := []) hx hb hml hown hts hX hC (m_X0_cast_6_0 (ix (d (10 + ix spot))) (vin_lt hk)) (lw_S q1216 q1217 q108 q1218) hdS_X0_cast ⟨rfl, rfl⟩ ⟨Nat.le_of_ble_eq_true rfl, Nat.le_of_ble_eq_true rfl⟩ hl.1 rfl (Nat.le_of_ble_eq_true rfl) ⟨Nat.zero_le _, Nat.zero_le _⟩ dX0_as_68 (fun _ H locs hC => ?_)
              refine W.eq (g2 := F0 m 71 ls [.ref (G.ad 26 (ix (d (10 + ix spot))))]) rfl ?_
              refine fg_get (C := RX12) (T := TX12) (N := 4) (ci := 12) (g := 26) (i := (ix (d (10 + ix spot)))) (v := .int (nI (ix (d (10 + ix spot))))) hx hb hown hts hX hC in_X12 rfl (cin (decide_eq_true (vin_lt hk))) rfl 0 (by decide) q342 (fun _ h => h) rfl dX0_as_71 ?_
              refine lv_goto (tgt := 82) hx hb dX0_as_74 (by decide) ?_
              have hs : s_as d fd spot 0 = ((nI (ix (d (10 + ix spot))), fd) : Int32 × Row) := by rw [s_as, if_pos ⟨c_2, c_5⟩, if_neg hn, if_pos (by rw [qk]; decide), nI_ix8 hk]
              exact fr_i hx hb hr hlocks hX hC (usp sp (ix spot) (some (G.ad 26 (ix (d (10 + ix spot)))))) (congrArg (fun z => some (Value.int z)) (t2_1 hs)) (congrArg (fun z => cct G (pg d kp as un to sc z tp sh) (usp sp (ix spot) (some (G.ad 26 (ix (d (10 + ix spot))))))) (t2_2 hs)).symm dX0_as_82
            · subst qq
              refine lv_aload_n hx hb dX0_as_66 rfl (lv_at hl 1 rfl) ?_
              refine lv_iload_n hx hb dX0_as_67 rfl (lv_at hl 4 rfl) ?_
              refine fc_S (As := [.ref (G.ad 26 (ix (d (10 + ix spot)))), .int 6]) (rest := []) hx hb hml hown hts hX hC (m_X0_cast_6_6 (ix (d (10 + ix spot))) (vin_lt hk)) (lw_S q1216 q1217 q108 q1218) hdS_X0_cast ⟨rfl, rfl⟩ ⟨Nat.le_of_ble_eq_true rfl, Nat.le_of_ble_eq_true rfl⟩ hl.1 rfl (Nat.le_of_ble_eq_true rfl) ⟨Nat.zero_le _, Nat.zero_le _⟩ dX0_as_68 (fun _ H locs hC => ?_)
              refine W.eq (g2 := F0 m 71 ls [.ref (G.ad 26 (ix (d (10 + ix spot))))]) rfl ?_
              refine fg_get (C := RX12) (T := TX12) (N := 4) (ci := 12) (g := 26) (i := (ix (d (10 + ix spot)))) (v := .int (nI (ix (d (10 + ix spot))))) hx hb hown hts hX hC in_X12 rfl (cin (decide_eq_true (vin_lt hk))) rfl 0 (by decide) q342 (fun _ h => h) rfl dX0_as_71 ?_
              refine lv_goto (tgt := 82) hx hb dX0_as_74 (by decide) ?_
              have hs : s_as d fd spot 6 = ((nI (ix (d (10 + ix spot))), fd) : Int32 × Row) := by rw [s_as, if_pos ⟨c_2, c_5⟩, if_neg hn, if_pos (by rw [qk]; decide), nI_ix8 hk]
              exact fr_i hx hb hr hlocks hX hC (usp sp (ix spot) (some (G.ad 26 (ix (d (10 + ix spot)))))) (congrArg (fun z => some (Value.int z)) (t2_1 hs)) (congrArg (fun z => cct G (pg d kp as un to sc z tp sh) (usp sp (ix spot) (some (G.ad 26 (ix (d (10 + ix spot))))))) (t2_2 hs)).symm dX0_as_82
    · refine lv_aload_n hx hb dX0_as_14 rfl (lv_at hl 0 rfl) ?_
      refine lv_iconst (v := 0) hx hb dX0_as_15 rfl ?_
      refine fc_V (As := [.int 0]) (rest := []) hx hb hml hown hts hX hC (m_X0_finding 0 (vin_b rfl)) (lw_V q472 q474 qs2 q108 q475) hdV_X0_finding ⟨rfl, rfl⟩ ⟨Nat.le_of_ble_eq_true rfl, Nat.le_of_ble_eq_true rfl⟩ (fx_recv (g := 5) (i := 0) (ci := 1) (q := (RX0, TX0, 13)) hX hC (cin rfl) rfl rfl) hl.1 rfl (Nat.le_of_ble_eq_true rfl) ⟨Nat.zero_le _, Nat.zero_le _⟩ dX0_as_16 (fun _ H locs hC => ?_)
      refine W.eq (g2 := F0 m 19 ls [.int (-1000001)]) rfl ?_
      have hs : s_as d fd spot kind = (((-1000001), p_find fd 0) : Int32 × Row) := by rw [s_as, if_neg (fun z => c_5 z.2)]
      exact fr_i hx hb hr hlocks hX hC sp (congrArg (fun z => some (Value.int z)) (t2_1 hs)) (congrArg (fun z => cct G (pg d kp as un to sc z tp sh) sp) (t2_2 hs)).symm dX0_as_19
