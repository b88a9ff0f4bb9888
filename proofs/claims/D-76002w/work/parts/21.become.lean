theorem hdS_X4_copy : yX4_copy.cls ≠ "java/lang/invoke/MethodHandle" ∧ yX4_copy.cls ≠ "java/lang/invoke/VarHandle" ∧ (parseMethodDescriptor yX4_copy.desc).map (fun d => d.parameters.length) = some 2 := by decide +kernel
set_option maxRecDepth 100000 in
theorem m_X4_become_20 {l : Launch} {G : Gc} {d kp as un to sc fd tp sh : Row} {sp : Nat → Option Nat}  : Cm l yX4_become (ws_ yX4_become cX4_become 3 none) ({ frames := 2, cells := 0, slots := 0, locals := 81 }) (cF G) [.ref (G.ad 2 0), .ref (G.ad 0 0)] (cct G (pg d kp as un to sc fd tp sh) sp) (fun _ : Unit => none) (fun _ => cct G (pg d kp d un to sc fd tp sh) sp) := by
  refine Cm.start (by decide) (Nat.le_of_ble_eq_true rfl) ?_
  intro p e s m below meth c hf hX hC ls hl
  obtain ⟨hx, hb, hr, hml, hown, hts, hlocks⟩ := hf
  have hl : lv_has ls 3 [(0, .ref (G.ad 2 0)), (1, .ref (G.ad 0 0))] := hl
  have hown : s.vm.findClass "OwlEars$World" = some m.cls := hown
  refine lv_aload_n hx hb dX4_become_0 rfl (lv_at hl 1 rfl) ?_
  refine fg_get (C := RX4) (T := TX4) (N := 9) (ci := 0) (g := 0) (i := 0) (v := .ref (G.ad 0 1)) hx hb hown hts hX hC in_X4 rfl (cin rfl) rfl 0 (by decide) q238 (fun _ h => h) rfl dX4_become_1 ?_
  refine lv_aload_n hx hb dX4_become_4 rfl (lv_at hl 0 rfl) ?_
  refine fg_get (C := RX4) (T := TX4) (N := 9) (ci := 0) (g := 2) (i := 0) (v := .ref (G.ad 2 1)) hx hb hown hts hX hC in_X4 rfl (cin rfl) rfl 0 (by decide) q238 (fun _ h => h) rfl dX4_become_5 ?_
  refine fc_S (As := [.ref (G.ad 0 1), .ref (G.ad 2 1)]) (rest := []) hx hb hml hown hts hX hC (m_X4_copy (g1 := 0) (i1 := 1) (g2 := 2) (i2 := 1) (t0 := 0) (ctn := cct G (pg d kp (bk 1 as d) un to sc fd tp sh) sp) (cin rfl) rfl (cin rfl) rfl rfl (by decide) (cb_0 (w := as) (o := d) (by decide) pg2 (bk_0 _ _) rfl)) (lw_S q704 q705 q115 q706) hdS_X4_copy ⟨rfl, rfl⟩ ⟨Nat.le_of_ble_eq_true rfl, Nat.le_of_ble_eq_true rfl⟩ hl.1 rfl (Nat.le_of_ble_eq_true rfl) ⟨Nat.zero_le _, Nat.zero_le _⟩ dX4_become_8 (fun _ H locs hC => ?_)
  refine lv_aload_n hx hb dX4_become_11 rfl (lv_at hl 1 rfl) ?_
  refine fg_get (C := RX4) (T := TX4) (N := 9) (ci := 0) (g := 0) (i := 0) (v := .ref (G.ad 0 2)) hx hb hown hts hX hC in_X4 rfl (cin rfl) rfl 1 (by decide) q241 (fun _ h => h) rfl dX4_become_12 ?_
  refine lv_aload_n hx hb dX4_become_15 rfl (lv_at hl 0 rfl) ?_
  refine fg_get (C := RX4) (T := TX4) (N := 9) (ci := 0) (g := 2) (i := 0) (v := .ref (G.ad 2 2)) hx hb hown hts hX hC in_X4 rfl (cin rfl) rfl 1 (by decide) q241 (fun _ h => h) rfl dX4_become_16 ?_
  refine fc_S (As := [.ref (G.ad 0 2), .ref (G.ad 2 2)]) (rest := []) hx hb hml hown hts hX hC (m_X4_copy (g1 := 0) (i1 := 2) (g2 := 2) (i2 := 2) (t0 := 0) (ctn := cct G (pg d kp (bk 2 as d) un to sc fd tp sh) sp) (cin rfl) rfl (cin rfl) rfl rfl (by decide) (cb_1 (w := as) (o := d) (by decide) pg2 rfl rfl)) (lw_S q704 q705 q115 q706) hdS_X4_copy ⟨rfl, rfl⟩ ⟨Nat.le_of_ble_eq_true rfl, Nat.le_of_ble_eq_true rfl⟩ hl.1 rfl (Nat.le_of_ble_eq_true rfl) ⟨Nat.zero_le _, Nat.zero_le _⟩ dX4_become_19 (fun _ H locs hC => ?_)
  refine lv_aload_n hx hb dX4_become_22 rfl (lv_at hl 1 rfl) ?_
  refine fg_get (C := RX4) (T := TX4) (N := 9) (ci := 0) (g := 0) (i := 0) (v := .ref (G.ad 0 3)) hx hb hown hts hX hC in_X4 rfl (cin rfl) rfl 2 (by decide) q244 (fun _ h => h) rfl dX4_become_23 ?_
  refine lv_aload_n hx hb dX4_become_26 rfl (lv_at hl 0 rfl) ?_
  refine fg_get (C := RX4) (T := TX4) (N := 9) (ci := 0) (g := 2) (i := 0) (v := .ref (G.ad 2 3)) hx hb hown hts hX hC in_X4 rfl (cin rfl) rfl 2 (by decide) q244 (fun _ h => h) rfl dX4_become_27 ?_
  refine fc_S (As := [.ref (G.ad 0 3), .ref (G.ad 2 3)]) (rest := []) hx hb hml hown hts hX hC (m_X4_copy (g1 := 0) (i1 := 3) (g2 := 2) (i2 := 3) (t0 := 0) (ctn := cct G (pg d kp (bk 3 as d) un to sc fd tp sh) sp) (cin rfl) rfl (cin rfl) rfl rfl (by decide) (cb_2 (w := as) (o := d) (by decide) pg2 rfl rfl)) (lw_S q704 q705 q115 q706) hdS_X4_copy ⟨rfl, rfl⟩ ⟨Nat.le_of_ble_eq_true rfl, Nat.le_of_ble_eq_true rfl⟩ hl.1 rfl (Nat.le_of_ble_eq_true rfl) ⟨Nat.zero_le _, Nat.zero_le _⟩ dX4_become_30 (fun _ H locs hC => ?_)
  refine lv_aload_n hx hb dX4_become_33 rfl (lv_at hl 1 rfl) ?_
  refine fg_get (C := RX4) (T := TX4) (N := 9) (ci := 0) (g := 0) (i := 0) (v := .ref (G.ad 0 4)) hx hb hown hts hX hC in_X4 rfl (cin rfl) rfl 3 (by decide) q247 (fun _ h => h) rfl dX4_become_34 ?_
  refine lv_aload_n hx hb dX4_become_37 rfl (lv_at hl 0 rfl) ?_
  refine fg_get (C := RX4) (T := TX4) (N := 9) (ci := 0) (g := 2) (i := 0) (v := .ref (G.ad 2 4)) hx hb hown hts hX hC in_X4 rfl (cin rfl) rfl 3 (by decide) q247 (fun _ h => h) rfl dX4_become_38 ?_
  refine fc_S (As := [.ref (G.ad 0 4), .ref (G.ad 2 4)]) (rest := []) hx hb hml hown hts hX hC (m_X4_copy (g1 := 0) (i1 := 4) (g2 := 2) (i2 := 4) (t0 := 0) (ctn := cct G (pg d kp (bk 4 as d) un to sc fd tp sh) sp) (cin rfl) rfl (cin rfl) rfl rfl (by decide) (cb_3 (w := as) (o := d) (by decide) pg2 rfl rfl)) (lw_S q704 q705 q115 q706) hdS_X4_copy ⟨rfl, rfl⟩ ⟨Nat.le_of_ble_eq_true rfl, Nat.le_of_ble_eq_true rfl⟩ hl.1 rfl (Nat.le_of_ble_eq_true rfl) ⟨Nat.zero_le _, Nat.zero_le _⟩ dX4_become_41 (fun _ H locs hC => ?_)
  refine lv_aload_n hx hb dX4_become_44 rfl (lv_at hl 0 rfl) ?_
  refine lv_aload_n hx hb dX4_become_45 rfl (lv_at hl 1 rfl) ?_
  refine fg_get (C := RX4) (T := TX4) (N := 9) (ci := 0) (g := 0) (i := 0) (v := .int (d 1)) hx hb hown hts hX hC in_X4 rfl (cin rfl) rfl 4 (by decide) q251 (fun _ h => h) rfl dX4_become_46 ?_
  refine fg_put (C := RX4) (T := TX4) (N := 9) (ci := 0) (g := 2) (i := 0) hx hb hown hts hX hC in_X4 tyX4 tyX4_ok nmX4 rfl (cin rfl) rfl 4 (by decide) q251 (fun _ h => h) rfl rfl rfl (Nat.le_of_ble_eq_true rfl) (cct G (pg d kp (bk 5 as d) un to sc fd tp sh) sp) (cb_4 (w := as) (o := d) (by decide) pg2 rfl rfl) dX4_become_49 (fun H locs hC => ?_)
  refine lv_iconst (v := 0) hx hb dX4_become_52 rfl ?_
  refine lv_istore_n (lv' := [(2, .int 0), (0, .ref (G.ad 2 0)), (1, .ref (G.ad 0 0))]) hx hb dX4_become_53 rfl hl (by decide) rfl (fun ls hl => ?_)
  refine lv_iload_n hx hb dX4_become_54 rfl (lv_at hl 0 rfl) ?_
  refine lv_iconst (v := 4) hx hb dX4_become_55 rfl ?_
  refine fj_ge (tgt := 80) hx hb dX4_become_56 (by decide) (fun z_1 => absurd (by decide) z_1) (fun _ => ?_)
  refine lv_aload_n hx hb dX4_become_59 rfl (lv_at hl 2 rfl) ?_
  refine fg_get (C := RX4) (T := TX4) (N := 9) (ci := 0) (g := 0) (i := 0) (v := .ref (G.ad 0 5)) hx hb hown hts hX hC in_X4 rfl (cin rfl) rfl 5 (by decide) q254 (fun _ h => h) rfl dX4_become_60 ?_
  refine lv_iload_n hx hb dX4_become_63 rfl (lv_at hl 0 rfl) ?_
  refine fg_ald (g := 0) (i := 5) (t0 := 1) (ty := .array .int) (v := .ref (G.ad 0 6)) hx hb hX hC (cin rfl) rfl rfl rfl (vin_b rfl) rfl dX4_become_64 ?_
  refine lv_aload_n hx hb dX4_become_65 rfl (lv_at hl 1 rfl) ?_
  refine fg_get (C := RX4) (T := TX4) (N := 9) (ci := 0) (g := 2) (i := 0) (v := .ref (G.ad 2 5)) hx hb hown hts hX hC in_X4 rfl (cin rfl) rfl 5 (by decide) q254 (fun _ h => h) rfl dX4_become_66 ?_
  refine lv_iload_n hx hb dX4_become_69 rfl (lv_at hl 0 rfl) ?_
  refine fg_ald (g := 2) (i := 5) (t0 := 1) (ty := .array .int) (v := .ref (G.ad 2 6)) hx hb hX hC (cin rfl) rfl rfl rfl (vin_b rfl) rfl dX4_become_70 ?_
  refine fc_S (As := [.ref (G.ad 0 6), .ref (G.ad 2 6)]) (rest := []) hx hb hml hown hts hX hC (m_X4_copy (g1 := 0) (i1 := 6) (g2 := 2) (i2 := 6) (t0 := 0) (ctn := cct G (pg d kp (bk 6 as d) un to sc fd tp sh) sp) (cin rfl) rfl (cin rfl) rfl rfl (by decide) (cb_5 (w := as) (o := d) (by decide) pg2 rfl rfl)) (lw_S q704 q705 q115 q706) hdS_X4_copy ⟨rfl, rfl⟩ ⟨Nat.le_of_ble_eq_true rfl, Nat.le_of_ble_eq_true rfl⟩ hl.1 rfl (Nat.le_of_ble_eq_true rfl) ⟨Nat.zero_le _, Nat.zero_le _⟩ dX4_become_71 (fun _ H locs hC => ?_)
  refine lv_iinc (v := 1) (lv' := [(2, .int 1), (0, .ref (G.ad 2 0)), (1, .ref (G.ad 0 0))]) hx hb dX4_become_74 hl (k := 0) rfl rfl (by decide) rfl (fun ls hl => ?_)
  refine lv_goto (tgt := 54) hx hb dX4_become_77 (by decide) ?_
  refine lv_iload_n hx hb dX4_become_54 rfl (lv_at hl 0 rfl) ?_
  refine lv_iconst (v := 4) hx hb dX4_become_55 rfl ?_
  refine fj_ge (tgt := 80) hx hb dX4_become_56 (by decide) (fun z_2 => absurd (by decide) z_2) (fun _ => ?_)
  refine lv_aload_n hx hb dX4_become_59 rfl (lv_at hl 2 rfl) ?_
  refine fg_get (C := RX4) (T := TX4) (N := 9) (ci := 0) (g := 0) (i := 0) (v := .ref (G.ad 0 5)) hx hb hown hts hX hC in_X4 rfl (cin rfl) rfl 5 (by decide) q254 (fun _ h => h) rfl dX4_become_60 ?_
  refine lv_iload_n hx hb dX4_become_63 rfl (lv_at hl 0 rfl) ?_
  refine fg_ald (g := 0) (i := 5) (t0 := 1) (ty := .array .int) (v := .ref (G.ad 0 7)) hx hb hX hC (cin rfl) rfl rfl rfl (vin_b rfl) rfl dX4_become_64 ?_
  refine lv_aload_n hx hb dX4_become_65 rfl (lv_at hl 1 rfl) ?_
  refine fg_get (C := RX4) (T := TX4) (N := 9) (ci := 0) (g := 2) (i := 0) (v := .ref (G.ad 2 5)) hx hb hown hts hX hC in_X4 rfl (cin rfl) rfl 5 (by decide) q254 (fun _ h => h) rfl dX4_become_66 ?_
  refine lv_iload_n hx hb dX4_become_69 rfl (lv_at hl 0 rfl) ?_
  refine fg_ald (g := 2) (i := 5) (t0 := 1) (ty := .array .int) (v := .ref (G.ad 2 7)) hx hb hX hC (cin rfl) rfl rfl rfl (vin_b rfl) rfl dX4_become_70 ?_
  refine fc_S (As := [.ref (G.ad 0 7), .ref (G.ad 2 7)]) (rest := []) hx hb hml hown hts hX hC (m_X4_copy (g1 := 0) (i1 := 7) (g2 := 2) (i2 := 7) (t0 := 0) (ctn := cct G (pg d kp (bk 7 as d) un to sc fd tp sh) sp) (cin rfl) rfl (cin rfl) rfl rfl (by decide) (cb_6 (w := as) (o := d) (by decide) pg2 rfl rfl)) (lw_S q704 q705 q115 q706) hdS_X4_copy ⟨rfl, rfl⟩ ⟨Nat.le_of_ble_eq_true rfl, Nat.le_of_ble_eq_true rfl⟩ hl.1 rfl (Nat.le_of_ble_eq_true rfl) ⟨Nat.zero_le _, Nat.zero_le _⟩ dX4_become_71 (fun _ H locs hC => ?_)
  refine lv_iinc (v := 2) (lv' := [(2, .int 2), (0, .ref (G.ad 2 0)), (1, .ref (G.ad 0 0))]) hx hb dX4_become_74 hl (k := 0) rfl rfl (by decide) rfl (fun ls hl => ?_)
  refine lv_goto (tgt := 54) hx hb dX4_become_77 (by decide) ?_
  refine lv_iload_n hx hb dX4_become_54 rfl (lv_at hl 0 rfl) ?_
  refine lv_iconst (v := 4) hx hb dX4_become_55 rfl ?_
  refine fj_ge (tgt := 80) hx hb dX4_become_56 (by decide) (fun z_3 => absurd (by decide) z_3) (fun _ => ?_)
  refine lv_aload_n hx hb dX4_become_59 rfl (lv_at hl 2 rfl) ?_
  refine fg_get (C := RX4) (T := TX4) (N := 9) (ci := 0) (g := 0) (i := 0) (v := .ref (G.ad 0 5)) hx hb hown hts hX hC in_X4 rfl (cin rfl) rfl 5 (by decide) q254 (fun _ h => h) rfl dX4_become_60 ?_
  refine lv_iload_n hx hb dX4_become_63 rfl (lv_at hl 0 rfl) ?_
  refine fg_ald (g := 0) (i := 5) (t0 := 1) (ty := .array .int) (v := .ref (G.ad 0 8)) hx hb hX hC (cin rfl) rfl rfl rfl (vin_b rfl) rfl dX4_become_64 ?_
  refine lv_aload_n hx hb dX4_become_65 rfl (lv_at hl 1 rfl) ?_
  refine fg_get (C := RX4) (T := TX4) (N := 9) (ci := 0) (g := 2) (i := 0) (v := .ref (G.ad 2 5)) hx hb hown hts hX hC in_X4 rfl (cin rfl) rfl 5 (by decide) q254 (fun _ h => h) rfl dX4_become_66 ?_
  refine lv_iload_n hx hb dX4_become_69 rfl (lv_at hl 0 rfl) ?_
  refine fg_ald (g := 2) (i := 5) (t0 := 1) (ty := .array .int) (v := .ref (G.ad 2 8)) hx hb hX hC (cin rfl) rfl rfl rfl (vin_b rfl) rfl dX4_become_70 ?_
  refine fc_S (As := [.ref (G.ad 0 8), .ref (G.ad 2 8)]) (rest := []) hx hb hml hown hts hX hC (m_X4_copy (g1 := 0) (i1 := 8) (g2 := 2) (i2 := 8) (t0 := 0) (ctn := cct G (pg d kp (bk 8 as d) un to sc fd tp sh) sp) (cin rfl) rfl (cin rfl) rfl rfl (by decide) (cb_7 (w := as) (o := d) (by decide) pg2 rfl rfl)) (lw_S q704 q705 q115 q706) hdS_X4_copy ⟨rfl, rfl⟩ ⟨Nat.le_of_ble_eq_true rfl, Nat.le_of_ble_eq_true rfl⟩ hl.1 rfl (Nat.le_of_ble_eq_true rfl) ⟨Nat.zero_le _, Nat.zero_le _⟩ dX4_become_71 (fun _ H locs hC => ?_)
  refine lv_iinc (v := 3) (lv' := [(2, .int 3), (0, .ref (G.ad 2 0)), (1, .ref (G.ad 0 0))]) hx hb dX4_become_74 hl (k := 0) rfl rfl (by decide) rfl (fun ls hl => ?_)
  refine lv_goto (tgt := 54) hx hb dX4_become_77 (by decide) ?_
  refine lv_iload_n hx hb dX4_become_54 rfl (lv_at hl 0 rfl) ?_
  refine lv_iconst (v := 4) hx hb dX4_become_55 rfl ?_
  refine fj_ge (tgt := 80) hx hb dX4_become_56 (by decide) (fun z_4 => absurd (by decide) z_4) (fun _ => ?_)
  refine lv_aload_n hx hb dX4_become_59 rfl (lv_at hl 2 rfl) ?_
  refine fg_get (C := RX4) (T := TX4) (N := 9) (ci := 0) (g := 0) (i := 0) (v := .ref (G.ad 0 5)) hx hb hown hts hX hC in_X4 rfl (cin rfl) rfl 5 (by decide) q254 (fun _ h => h) rfl dX4_become_60 ?_
  refine lv_iload_n hx hb dX4_become_63 rfl (lv_at hl 0 rfl) ?_
  refine fg_ald (g := 0) (i := 5) (t0 := 1) (ty := .array .int) (v := .ref (G.ad 0 9)) hx hb hX hC (cin rfl) rfl rfl rfl (vin_b rfl) rfl dX4_become_64 ?_
  refine lv_aload_n hx hb dX4_become_65 rfl (lv_at hl 1 rfl) ?_
  refine fg_get (C := RX4) (T := TX4) (N := 9) (ci := 0) (g := 2) (i := 0) (v := .ref (G.ad 2 5)) hx hb hown hts hX hC in_X4 rfl (cin rfl) rfl 5 (by decide) q254 (fun _ h => h) rfl dX4_become_66 ?_
  refine lv_iload_n hx hb dX4_become_69 rfl (lv_at hl 0 rfl) ?_
  refine fg_ald (g := 2) (i := 5) (t0 := 1) (ty := .array .int) (v := .ref (G.ad 2 9)) hx hb hX hC (cin rfl) rfl rfl rfl (vin_b rfl) rfl dX4_become_70 ?_
  refine fc_S (As := [.ref (G.ad 0 9), .ref (G.ad 2 9)]) (rest := []) hx hb hml hown hts hX hC (m_X4_copy (g1 := 0) (i1 := 9) (g2 := 2) (i2 := 9) (t0 := 0) (ctn := cct G (pg d kp (bk 9 as d) un to sc fd tp sh) sp) (cin rfl) rfl (cin rfl) rfl rfl (by decide) (cb_8 (w := as) (o := d) (by decide) pg2 rfl rfl)) (lw_S q704 q705 q115 q706) hdS_X4_copy ⟨rfl, rfl⟩ ⟨Nat.le_of_ble_eq_true rfl, Nat.le_of_ble_eq_true rfl⟩ hl.1 rfl (Nat.le_of_ble_eq_true rfl) ⟨Nat.zero_le _, Nat.zero_le _⟩ dX4_become_71 (fun _ H locs hC => ?_)
  refine lv_iinc (v := 4) (lv' := [(2, .int 4), (0, .ref (G.ad 2 0)), (1, .ref (G.ad 0 0))]) hx hb dX4_become_74 hl (k := 0) rfl rfl (by decide) rfl (fun ls hl => ?_)
  refine lv_goto (tgt := 54) hx hb dX4_become_77 (by decide) ?_
  refine lv_iload_n hx hb dX4_become_54 rfl (lv_at hl 0 rfl) ?_
  refine lv_iconst (v := 4) hx hb dX4_become_55 rfl ?_
  refine fj_ge (tgt := 80) hx hb dX4_become_56 (by decide) (fun _ => ?_) (fun z_5 => absurd z_5 (by decide))
  refine lv_aload_n hx hb dX4_become_80 rfl (lv_at hl 1 rfl) ?_
  refine lv_aload_n hx hb dX4_become_81 rfl (lv_at hl 2 rfl) ?_
  refine fg_get (C := RX4) (T := TX4) (N := 9) (ci := 0) (g := 0) (i := 0) (v := .int (d 0)) hx hb hown hts hX hC in_X4 rfl (cin rfl) rfl 6 (by decide) q258 (fun _ h => h) rfl dX4_become_82 ?_
  refine fg_put (C := RX4) (T := TX4) (N := 9) (ci := 0) (g := 2) (i := 0) hx hb hown hts hX hC in_X4 tyX4 tyX4_ok nmX4 rfl (cin rfl) rfl 6 (by decide) q258 (fun _ h => h) rfl rfl rfl (Nat.le_of_ble_eq_true rfl) (cct G (pg d kp (bk 10 as d) un to sc fd tp sh) sp) (cb_9 (w := as) (o := d) (by decide) pg2 rfl rfl) dX4_become_85 (fun H locs hC => ?_)
  refine lv_aload_n hx hb dX4_become_88 rfl (lv_at hl 1 rfl) ?_
  refine lv_aload_n hx hb dX4_become_89 rfl (lv_at hl 2 rfl) ?_
  refine fg_get (C := RX4) (T := TX4) (N := 9) (ci := 0) (g := 0) (i := 0) (v := .int (d 2)) hx hb hown hts hX hC in_X4 rfl (cin rfl) rfl 7 (by decide) q260 (fun _ h => h) rfl dX4_become_90 ?_
  refine fg_put (C := RX4) (T := TX4) (N := 9) (ci := 0) (g := 2) (i := 0) hx hb hown hts hX hC in_X4 tyX4 tyX4_ok nmX4 rfl (cin rfl) rfl 7 (by decide) q260 (fun _ h => h) rfl rfl rfl (Nat.le_of_ble_eq_true rfl) (cct G (pg d kp (bk 11 as d) un to sc fd tp sh) sp) (cb_10 (w := as) (o := d) (by decide) pg2 rfl rfl) dX4_become_93 (fun H locs hC => ?_)
  refine lv_aload_n hx hb dX4_become_96 rfl (lv_at hl 2 rfl) ?_
  refine fg_get (C := RX4) (T := TX4) (N := 9) (ci := 0) (g := 0) (i := 0) (v := .ref (G.ad 0 10)) hx hb hown hts hX hC in_X4 rfl (cin rfl) rfl 8 (by decide) q262 (fun _ h => h) rfl dX4_become_97 ?_
  refine lv_aload_n hx hb dX4_become_100 rfl (lv_at hl 1 rfl) ?_
  refine fg_get (C := RX4) (T := TX4) (N := 9) (ci := 0) (g := 2) (i := 0) (v := .ref (G.ad 2 10)) hx hb hown hts hX hC in_X4 rfl (cin rfl) rfl 8 (by decide) q262 (fun _ h => h) rfl dX4_become_101 ?_
  refine fc_S (As := [.ref (G.ad 0 10), .ref (G.ad 2 10)]) (rest := []) hx hb hml hown hts hX hC (m_X4_copy (g1 := 0) (i1 := 10) (g2 := 2) (i2 := 10) (t0 := 0) (ctn := cct G (pg d kp (bk 12 as d) un to sc fd tp sh) sp) (cin rfl) rfl (cin rfl) rfl rfl (by decide) (cb_11 (w := as) (o := d) (by decide) pg2 rfl rfl)) (lw_S q704 q705 q115 q706) hdS_X4_copy ⟨rfl, rfl⟩ ⟨Nat.le_of_ble_eq_true rfl, Nat.le_of_ble_eq_true rfl⟩ hl.1 rfl (Nat.le_of_ble_eq_true rfl) ⟨Nat.zero_le _, Nat.zero_le _⟩ dX4_become_104 (fun _ H locs hC => ?_)
  have hC := cc_cong (P' := pg d kp d un to sc fd tp sh) (g := 2) (by decide) pg2 bk_all hC
  exact fr_v hx hb hr hlocks hX hC () rfl rfl dX4_become_107
set_option maxRecDepth 100000 in
theorem m_X4_become_02 {l : Launch} {G : Gc} {d kp as un to sc fd tp sh : Row} {sp : Nat → Option Nat}  : Cm l yX4_become (ws_ yX4_become cX4_become 3 none) ({ frames := 2, cells := 0, slots := 0, locals := 81 }) (cF G) [.ref (G.ad 0 0), .ref (G.ad 2 0)] (cct G (pg d kp as un to sc fd tp sh) sp) (fun _ : Unit => none) (fun _ => cct G (pg as kp as un to sc fd tp sh) sp) := by
  refine Cm.start (by decide) (Nat.le_of_ble_eq_true rfl) ?_
  intro p e s m below meth c hf hX hC ls hl
  obtain ⟨hx, hb, hr, hml, hown, hts, hlocks⟩ := hf
  have hl : lv_has ls 3 [(0, .ref (G.ad 0 0)), (1, .ref (G.ad 2 0))] := hl
  have hown : s.vm.findClass "OwlEars$World" = some m.cls := hown
  refine lv_aload_n hx hb dX4_become_0 rfl (lv_at hl 1 rfl) ?_
  refine fg_get (C := RX4) (T := TX4) (N := 9) (ci := 0) (g := 2) (i := 0) (v := .ref (G.ad 2 1)) hx hb hown hts hX hC in_X4 rfl (cin rfl) rfl 0 (by decide) q238 (fun _ h => h) rfl dX4_become_1 ?_
  refine lv_aload_n hx hb dX4_become_4 rfl (lv_at hl 0 rfl) ?_
  refine fg_get (C := RX4) (T := TX4) (N := 9) (ci := 0) (g := 0) (i := 0) (v := .ref (G.ad 0 1)) hx hb hown hts hX hC in_X4 rfl (cin rfl) rfl 0 (by decide) q238 (fun _ h => h) rfl dX4_become_5 ?_
  refine fc_S (As := [.ref (G.ad 2 1), .ref (G.ad 0 1)]) (rest := []) hx hb hml hown hts hX hC (m_X4_copy (g1 := 2) (i1 := 1) (g2 := 0) (i2 := 1) (t0 := 0) (ctn := cct G (pg (bk 1 d as) kp as un to sc fd tp sh) sp) (cin rfl) rfl (cin rfl) rfl rfl (by decide) (cb_0 (w := d) (o := as) (by decide) pg0 (bk_0 _ _) rfl)) (lw_S q704 q705 q115 q706) hdS_X4_copy ⟨rfl, rfl⟩ ⟨Nat.le_of_ble_eq_true rfl, Nat.le_of_ble_eq_true rfl⟩ hl.1 rfl (Nat.le_of_ble_eq_true rfl) ⟨Nat.zero_le _, Nat.zero_le _⟩ dX4_become_8 (fun _ H locs hC => ?_)
  refine lv_aload_n hx hb dX4_become_11 rfl (lv_at hl 1 rfl) ?_
  refine fg_get (C := RX4) (T := TX4) (N := 9) (ci := 0) (g := 2) (i := 0) (v := .ref (G.ad 2 2)) hx hb hown hts hX hC in_X4 rfl (cin rfl) rfl 1 (by decide) q241 (fun _ h => h) rfl dX4_become_12 ?_
  refine lv_aload_n hx hb dX4_become_15 rfl (lv_at hl 0 rfl) ?_
  refine fg_get (C := RX4) (T := TX4) (N := 9) (ci := 0) (g := 0) (i := 0) (v := .ref (G.ad 0 2)) hx hb hown hts hX hC in_X4 rfl (cin rfl) rfl 1 (by decide) q241 (fun _ h => h) rfl dX4_become_16 ?_
  refine fc_S (As := [.ref (G.ad 2 2), .ref (G.ad 0 2)]) (rest := []) hx hb hml hown hts hX hC (m_X4_copy (g1 := 2) (i1 := 2) (g2 := 0) (i2 := 2) (t0 := 0) (ctn := cct G (pg (bk 2 d as) kp as un to sc fd tp sh) sp) (cin rfl) rfl (cin rfl) rfl rfl (by decide) (cb_1 (w := d) (o := as) (by decide) pg0 rfl rfl)) (lw_S q704 q705 q115 q706) hdS_X4_copy ⟨rfl, rfl⟩ ⟨Nat.le_of_ble_eq_true rfl, Nat.le_of_ble_eq_true rfl⟩ hl.1 rfl (Nat.le_of_ble_eq_true rfl) ⟨Nat.zero_le _, Nat.zero_le _⟩ dX4_become_19 (fun _ H locs hC => ?_)
  refine lv_aload_n hx hb dX4_become_22 rfl (lv_at hl 1 rfl) ?_
  refine fg_get (C := RX4) (T := TX4) (N := 9) (ci := 0) (g := 2) (i := 0) (v := .ref (G.ad 2 3)) hx hb hown hts hX hC in_X4 rfl (cin rfl) rfl 2 (by decide) q244 (fun _ h => h) rfl dX4_become_23 ?_
  refine lv_aload_n hx hb dX4_become_26 rfl (lv_at hl 0 rfl) ?_
  refine fg_get (C := RX4) (T := TX4) (N := 9) (ci := 0) (g := 0) (i := 0) (v := .ref (G.ad 0 3)) hx hb hown hts hX hC in_X4 rfl (cin rfl) rfl 2 (by decide) q244 (fun _ h => h) rfl dX4_become_27 ?_
  refine fc_S (As := [.ref (G.ad 2 3), .ref (G.ad 0 3)]) (rest := []) hx hb hml hown hts hX hC (m_X4_copy (g1 := 2) (i1 := 3) (g2 := 0) (i2 := 3) (t0 := 0) (ctn := cct G (pg (bk 3 d as) kp as un to sc fd tp sh) sp) (cin rfl) rfl (cin rfl) rfl rfl (by decide) (cb_2 (w := d) (o := as) (by decide) pg0 rfl rfl)) (lw_S q704 q705 q115 q706) hdS_X4_copy ⟨rfl, rfl⟩ ⟨Nat.le_of_ble_eq_true rfl, Nat.le_of_ble_eq_true rfl⟩ hl.1 rfl (Nat.le_of_ble_eq_true rfl) ⟨Nat.zero_le _, Nat.zero_le _⟩ dX4_become_30 (fun _ H locs hC => ?_)
  refine lv_aload_n hx hb dX4_become_33 rfl (lv_at hl 1 rfl) ?_
  refine fg_get (C := RX4) (T := TX4) (N := 9) (ci := 0) (g := 2) (i := 0) (v := .ref (G.ad 2 4)) hx hb hown hts hX hC in_X4 rfl (cin rfl) rfl 3 (by decide) q247 (fun _ h => h) rfl dX4_become_34 ?_
  refine lv_aload_n hx hb dX4_become_37 rfl (lv_at hl 0 rfl) ?_
  refine fg_get (C := RX4) (T := TX4) (N := 9) (ci := 0) (g := 0) (i := 0) (v := .ref (G.ad 0 4)) hx hb hown hts hX hC in_X4 rfl (cin rfl) rfl 3 (by decide) q247 (fun _ h => h) rfl dX4_become_38 ?_
  refine fc_S (As := [.ref (G.ad 2 4), .ref (G.ad 0 4)]) (rest := []) hx hb hml hown hts hX hC (m_X4_copy (g1 := 2) (i1 := 4) (g2 := 0) (i2 := 4) (t0 := 0) (ctn := cct G (pg (bk 4 d as) kp as un to sc fd tp sh) sp) (cin rfl) rfl (cin rfl) rfl rfl (by decide) (cb_3 (w := d) (o := as) (by decide) pg0 rfl rfl)) (lw_S q704 q705 q115 q706) hdS_X4_copy ⟨rfl, rfl⟩ ⟨Nat.le_of_ble_eq_true rfl, Nat.le_of_ble_eq_true rfl⟩ hl.1 rfl (Nat.le_of_ble_eq_true rfl) ⟨Nat.zero_le _, Nat.zero_le _⟩ dX4_become_41 (fun _ H locs hC => ?_)
  refine lv_aload_n hx hb dX4_become_44 rfl (lv_at hl 0 rfl) ?_
  refine lv_aload_n hx hb dX4_become_45 rfl (lv_at hl 1 rfl) ?_
  refine fg_get (C := RX4) (T := TX4) (N := 9) (ci := 0) (g := 2) (i := 0) (v := .int (as 1)) hx hb hown hts hX hC in_X4 rfl (cin rfl) rfl 4 (by decide) q251 (fun _ h => h) rfl dX4_become_46 ?_
  refine fg_put (C := RX4) (T := TX4) (N := 9) (ci := 0) (g := 0) (i := 0) hx hb hown hts hX hC in_X4 tyX4 tyX4_ok nmX4 rfl (cin rfl) rfl 4 (by decide) q251 (fun _ h => h) rfl rfl rfl (Nat.le_of_ble_eq_true rfl) (cct G (pg (bk 5 d as) kp as un to sc fd tp sh) sp) (cb_4 (w := d) (o := as) (by decide) pg0 rfl rfl) dX4_become_49 (fun H locs hC => ?_)
  refine lv_iconst (v := 0) hx hb dX4_become_52 rfl ?_
  refine lv_istore_n (lv' := [(2, .int 0), (0, .ref (G.ad 0 0)), (1, .ref (G.ad 2 0))]) hx hb dX4_become_53 rfl hl (by decide) rfl (fun ls hl => ?_)
  refine lv_iload_n hx hb dX4_become_54 rfl (lv_at hl 0 rfl) ?_
  refine lv_iconst (v := 4) hx hb dX4_become_55 rfl ?_
  refine fj_ge (tgt := 80) hx hb dX4_become_56 (by decide) (fun z_1 => absurd (by decide) z_1) (fun _ => ?_)
  refine lv_aload_n hx hb dX4_become_59 rfl (lv_at hl 2 rfl) ?_
  refine fg_get (C := RX4) (T := TX4) (N := 9) (ci := 0) (g := 2) (i := 0) (v := .ref (G.ad 2 5)) hx hb hown hts hX hC in_X4 rfl (cin rfl) rfl 5 (by decide) q254 (fun _ h => h) rfl dX4_become_60 ?_
  refine lv_iload_n hx hb dX4_become_63 rfl (lv_at hl 0 rfl) ?_
  refine fg_ald (g := 2) (i := 5) (t0 := 1) (ty := .array .int) (v := .ref (G.ad 2 6)) hx hb hX hC (cin rfl) rfl rfl rfl (vin_b rfl) rfl dX4_become_64 ?_
  refine lv_aload_n hx hb dX4_become_65 rfl (lv_at hl 1 rfl) ?_
  refine fg_get (C := RX4) (T := TX4) (N := 9) (ci := 0) (g := 0) (i := 0) (v := .ref (G.ad 0 5)) hx hb hown hts hX hC in_X4 rfl (cin rfl) rfl 5 (by decide) q254 (fun _ h => h) rfl dX4_become_66 ?_
  refine lv_iload_n hx hb dX4_become_69 rfl (lv_at hl 0 rfl) ?_
  refine fg_ald (g := 0) (i := 5) (t0 := 1) (ty := .array .int) (v := .ref (G.ad 0 6)) hx hb hX hC (cin rfl) rfl rfl rfl (vin_b rfl) rfl dX4_become_70 ?_
  refine fc_S (As := [.ref (G.ad 2 6), .ref (G.ad 0 6)]) (rest := []) hx hb hml hown hts hX hC (m_X4_copy (g1 := 2) (i1 := 6) (g2 := 0) (i2 := 6) (t0 := 0) (ctn := cct G (pg (bk 6 d as) kp as un to sc fd tp sh) sp) (cin rfl) rfl (cin rfl) rfl rfl (by decide) (cb_5 (w := d) (o := as) (by decide) pg0 rfl rfl)) (lw_S q704 q705 q115 q706) hdS_X4_copy ⟨rfl, rfl⟩ ⟨Nat.le_of_ble_eq_true rfl, Nat.le_of_ble_eq_true rfl⟩ hl.1 rfl (Nat.le_of_ble_eq_true rfl) ⟨Nat.zero_le _, Nat.zero_le _⟩ dX4_become_71 (fun _ H locs hC => ?_)
  refine lv_iinc (v := 1) (lv' := [(2, .int 1), (0, .ref (G.ad 0 0)), (1, .ref (G.ad 2 0))]) hx hb dX4_become_74 hl (k := 0) rfl rfl (by decide) rfl (fun ls hl => ?_)
  refine lv_goto (tgt := 54) hx hb dX4_become_77 (by decide) ?_
  refine lv_iload_n hx hb dX4_become_54 rfl (lv_at hl 0 rfl) ?_
  refine lv_iconst (v := 4) hx hb dX4_become_55 rfl ?_
  refine fj_ge (tgt := 80) hx hb dX4_become_56 (by decide) (fun z_2 => absurd (by decide) z_2) (fun _ => ?_)
  refine lv_aload_n hx hb dX4_become_59 rfl (lv_at hl 2 rfl) ?_
  refine fg_get (C := RX4) (T := TX4) (N := 9) (ci := 0) (g := 2) (i := 0) (v := .ref (G.ad 2 5)) hx hb hown hts hX hC in_X4 rfl (cin rfl) rfl 5 (by decide) q254 (fun _ h => h) rfl dX4_become_60 ?_
  refine lv_iload_n hx hb dX4_become_63 rfl (lv_at hl 0 rfl) ?_
  refine fg_ald (g := 2) (i := 5) (t0 := 1) (ty := .array .int) (v := .ref (G.ad 2 7)) hx hb hX hC (cin rfl) rfl rfl rfl (vin_b rfl) rfl dX4_become_64 ?_
  refine lv_aload_n hx hb dX4_become_65 rfl (lv_at hl 1 rfl) ?_
  refine fg_get (C := RX4) (T := TX4) (N := 9) (ci := 0) (g := 0) (i := 0) (v := .ref (G.ad 0 5)) hx hb hown hts hX hC in_X4 rfl (cin rfl) rfl 5 (by decide) q254 (fun _ h => h) rfl dX4_become_66 ?_
  refine lv_iload_n hx hb dX4_become_69 rfl (lv_at hl 0 rfl) ?_
  refine fg_ald (g := 0) (i := 5) (t0 := 1) (ty := .array .int) (v := .ref (G.ad 0 7)) hx hb hX hC (cin rfl) rfl rfl rfl (vin_b rfl) rfl dX4_become_70 ?_
  refine fc_S (As := [.ref (G.ad 2 7), .ref (G.ad 0 7)]) (rest := []) hx hb hml hown hts hX hC (m_X4_copy (g1 := 2) (i1 := 7) (g2 := 0) (i2 := 7) (t0 := 0) (ctn := cct G (pg (bk 7 d as) kp as un to sc fd tp sh) sp) (cin rfl) rfl (cin rfl) rfl rfl (by decide) (cb_6 (w := d) (o := as) (by decide) pg0 rfl rfl)) (lw_S q704 q705 q115 q706) hdS_X4_copy ⟨rfl, rfl⟩ ⟨Nat.le_of_ble_eq_true rfl, Nat.le_of_ble_eq_true rfl⟩ hl.1 rfl (Nat.le_of_ble_eq_true rfl) ⟨Nat.zero_le _, Nat.zero_le _⟩ dX4_become_71 (fun _ H locs hC => ?_)
  refine lv_iinc (v := 2) (lv' := [(2, .int 2), (0, .ref (G.ad 0 0)), (1, .ref (G.ad 2 0))]) hx hb dX4_become_74 hl (k := 0) rfl rfl (by decide) rfl (fun ls hl => ?_)
  refine lv_goto (tgt := 54) hx hb dX4_become_77 (by decide) ?_
  refine lv_iload_n hx hb dX4_become_54 rfl (lv_at hl 0 rfl) ?_
  refine lv_iconst (v := 4) hx hb dX4_become_55 rfl ?_
  refine fj_ge (tgt := 80) hx hb dX4_become_56 (by decide) (fun z_3 => absurd (by decide) z_3) (fun _ => ?_)
  refine lv_aload_n hx hb dX4_become_59 rfl (lv_at hl 2 rfl) ?_
  refine fg_get (C := RX4) (T := TX4) (N := 9) (ci := 0) (g := 2) (i := 0) (v := .ref (G.ad 2 5)) hx hb hown hts hX hC in_X4 rfl (cin rfl) rfl 5 (by decide) q254 (fun _ h => h) rfl dX4_become_60 ?_
  refine lv_iload_n hx hb dX4_become_63 rfl (lv_at hl 0 rfl) ?_
  refine fg_ald (g := 2) (i := 5) (t0 := 1) (ty := .array .int) (v := .ref (G.ad 2 8)) hx hb hX hC (cin rfl) rfl rfl rfl (vin_b rfl) rfl dX4_become_64 ?_
  refine lv_aload_n hx hb dX4_become_65 rfl (lv_at hl 1 rfl) ?_
  refine fg_get (C := RX4) (T := TX4) (N := 9) (ci := 0) (g := 0) (i := 0) (v := .ref (G.ad 0 5)) hx hb hown hts hX hC in_X4 rfl (cin rfl) rfl 5 (by decide) q254 (fun _ h => h) rfl dX4_become_66 ?_
  refine lv_iload_n hx hb dX4_become_69 rfl (lv_at hl 0 rfl) ?_
  refine fg_ald (g := 0) (i := 5) (t0 := 1) (ty := .array .int) (v := .ref (G.ad 0 8)) hx hb hX hC (cin rfl) rfl rfl rfl (vin_b rfl) rfl dX4_become_70 ?_
  refine fc_S (As := [.ref (G.ad 2 8), .ref (G.ad 0 8)]) (rest := []) hx hb hml hown hts hX hC (m_X4_copy (g1 := 2) (i1 := 8) (g2 := 0) (i2 := 8) (t0 := 0) (ctn := cct G (pg (bk 8 d as) kp as un to sc fd tp sh) sp) (cin rfl) rfl (cin rfl) rfl rfl (by decide) (cb_7 (w := d) (o := as) (by decide) pg0 rfl rfl)) (lw_S q704 q705 q115 q706) hdS_X4_copy ⟨rfl, rfl⟩ ⟨Nat.le_of_ble_eq_true rfl, Nat.le_of_ble_eq_true rfl⟩ hl.1 rfl (Nat.le_of_ble_eq_true rfl) ⟨Nat.zero_le _, Nat.zero_le _⟩ dX4_become_71 (fun _ H locs hC => ?_)
  refine lv_iinc (v := 3) (lv' := [(2, .int 3), (0, .ref (G.ad 0 0)), (1, .ref (G.ad 2 0))]) hx hb dX4_become_74 hl (k := 0) rfl rfl (by decide) rfl (fun ls hl => ?_)
  refine lv_goto (tgt := 54) hx hb dX4_become_77 (by decide) ?_
  refine lv_iload_n hx hb dX4_become_54 rfl (lv_at hl 0 rfl) ?_
  refine lv_iconst (v := 4) hx hb dX4_become_55 rfl ?_
  refine fj_ge (tgt := 80) hx hb dX4_become_56 (by decide) (fun z_4 => absurd (by decide) z_4) (fun _ => ?_)
  refine lv_aload_n hx hb dX4_become_59 rfl (lv_at hl 2 rfl) ?_
  refine fg_get (C := RX4) (T := TX4) (N := 9) (ci := 0) (g := 2) (i := 0) (v := .ref (G.ad 2 5)) hx hb hown hts hX hC in_X4 rfl (cin rfl) rfl 5 (by decide) q254 (fun _ h => h) rfl dX4_become_60 ?_
  refine lv_iload_n hx hb dX4_become_63 rfl (lv_at hl 0 rfl) ?_
  refine fg_ald (g := 2) (i := 5) (t0 := 1) (ty := .array .int) (v := .ref (G.ad 2 9)) hx hb hX hC (cin rfl) rfl rfl rfl (vin_b rfl) rfl dX4_become_64 ?_
  refine lv_aload_n hx hb dX4_become_65 rfl (lv_at hl 1 rfl) ?_
  refine fg_get (C := RX4) (T := TX4) (N := 9) (ci := 0) (g := 0) (i := 0) (v := .ref (G.ad 0 5)) hx hb hown hts hX hC in_X4 rfl (cin rfl) rfl 5 (by decide) q254 (fun _ h => h) rfl dX4_become_66 ?_
  refine lv_iload_n hx hb dX4_become_69 rfl (lv_at hl 0 rfl) ?_
  refine fg_ald (g := 0) (i := 5) (t0 := 1) (ty := .array .int) (v := .ref (G.ad 0 9)) hx hb hX hC (cin rfl) rfl rfl rfl (vin_b rfl) rfl dX4_become_70 ?_
  refine fc_S (As := [.ref (G.ad 2 9), .ref (G.ad 0 9)]) (rest := []) hx hb hml hown hts hX hC (m_X4_copy (g1 := 2) (i1 := 9) (g2 := 0) (i2 := 9) (t0 := 0) (ctn := cct G (pg (bk 9 d as) kp as un to sc fd tp sh) sp) (cin rfl) rfl (cin rfl) rfl rfl (by decide) (cb_8 (w := d) (o := as) (by decide) pg0 rfl rfl)) (lw_S q704 q705 q115 q706) hdS_X4_copy ⟨rfl, rfl⟩ ⟨Nat.le_of_ble_eq_true rfl, Nat.le_of_ble_eq_true rfl⟩ hl.1 rfl (Nat.le_of_ble_eq_true rfl) ⟨Nat.zero_le _, Nat.zero_le _⟩ dX4_become_71 (fun _ H locs hC => ?_)
  refine lv_iinc (v := 4) (lv' := [(2, .int 4), (0, .ref (G.ad 0 0)), (1, .ref (G.ad 2 0))]) hx hb dX4_become_74 hl (k := 0) rfl rfl (by decide) rfl (fun ls hl => ?_)
  refine lv_goto (tgt := 54) hx hb dX4_become_77 (by decide) ?_
  refine lv_iload_n hx hb dX4_become_54 rfl (lv_at hl 0 rfl) ?_
  refine lv_iconst (v := 4) hx hb dX4_become_55 rfl ?_
  refine fj_ge (tgt := 80) hx hb dX4_become_56 (by decide) (fun _ => ?_) (fun z_5 => absurd z_5 (by decide))
  refine lv_aload_n hx hb dX4_become_80 rfl (lv_at hl 1 rfl) ?_
  refine lv_aload_n hx hb dX4_become_81 rfl (lv_at hl 2 rfl) ?_
  refine fg_get (C := RX4) (T := TX4) (N := 9) (ci := 0) (g := 2) (i := 0) (v := .int (as 0)) hx hb hown hts hX hC in_X4 rfl (cin rfl) rfl 6 (by decide) q258 (fun _ h => h) rfl dX4_become_82 ?_
  refine fg_put (C := RX4) (T := TX4) (N := 9) (ci := 0) (g := 0) (i := 0) hx hb hown hts hX hC in_X4 tyX4 tyX4_ok nmX4 rfl (cin rfl) rfl 6 (by decide) q258 (fun _ h => h) rfl rfl rfl (Nat.le_of_ble_eq_true rfl) (cct G (pg (bk 10 d as) kp as un to sc fd tp sh) sp) (cb_9 (w := d) (o := as) (by decide) pg0 rfl rfl) dX4_become_85 (fun H locs hC => ?_)
  refine lv_aload_n hx hb dX4_become_88 rfl (lv_at hl 1 rfl) ?_
  refine lv_aload_n hx hb dX4_become_89 rfl (lv_at hl 2 rfl) ?_
  refine fg_get (C := RX4) (T := TX4) (N := 9) (ci := 0) (g := 2) (i := 0) (v := .int (as 2)) hx hb hown hts hX hC in_X4 rfl (cin rfl) rfl 7 (by decide) q260 (fun _ h => h) rfl dX4_become_90 ?_
  refine fg_put (C := RX4) (T := TX4) (N := 9) (ci := 0) (g := 0) (i := 0) hx hb hown hts hX hC in_X4 tyX4 tyX4_ok nmX4 rfl (cin rfl) rfl 7 (by decide) q260 (fun _ h => h) rfl rfl rfl (Nat.le_of_ble_eq_true rfl) (cct G (pg (bk 11 d as) kp as un to sc fd tp sh) sp) (cb_10 (w := d) (o := as) (by decide) pg0 rfl rfl) dX4_become_93 (fun H locs hC => ?_)
  refine lv_aload_n hx hb dX4_become_96 rfl (lv_at hl 2 rfl) ?_
  refine fg_get (C := RX4) (T := TX4) (N := 9) (ci := 0) (g := 2) (i := 0) (v := .ref (G.ad 2 10)) hx hb hown hts hX hC in_X4 rfl (cin rfl) rfl 8 (by decide) q262 (fun _ h => h) rfl dX4_become_97 ?_
  refine lv_aload_n hx hb dX4_become_100 rfl (lv_at hl 1 rfl) ?_
  refine fg_get (C := RX4) (T := TX4) (N := 9) (ci := 0) (g := 0) (i := 0) (v := .ref (G.ad 0 10)) hx hb hown hts hX hC in_X4 rfl (cin rfl) rfl 8 (by decide) q262 (fun _ h => h) rfl dX4_become_101 ?_
  refine fc_S (As := [.ref (G.ad 2 10), .ref (G.ad 0 10)]) (rest := []) hx hb hml hown hts hX hC (m_X4_copy (g1 := 2) (i1 := 10) (g2 := 0) (i2 := 10) (t0 := 0) (ctn := cct G (pg (bk 12 d as) kp as un to sc fd tp sh) sp) (cin rfl) rfl (cin rfl) rfl rfl (by decide) (cb_11 (w := d) (o := as) (by decide) pg0 rfl rfl)) (lw_S q704 q705 q115 q706) hdS_X4_copy ⟨rfl, rfl⟩ ⟨Nat.le_of_ble_eq_true rfl, Nat.le_of_ble_eq_true rfl⟩ hl.1 rfl (Nat.le_of_ble_eq_true rfl) ⟨Nat.zero_le _, Nat.zero_le _⟩ dX4_become_104 (fun _ H locs hC => ?_)
  have hC := cc_cong (P' := pg as kp as un to sc fd tp sh) (g := 0) (by decide) pg0 bk_all hC
  exact fr_v hx hb hr hlocks hX hC () rfl rfl dX4_become_107
set_option maxRecDepth 100000 in
theorem m_X4_become_30 {l : Launch} {G : Gc} {d kp as un to sc fd tp sh : Row} {sp : Nat → Option Nat}  : Cm l yX4_become (ws_ yX4_become cX4_become 3 none) ({ frames := 2, cells := 0, slots := 0, locals := 81 }) (cF G) [.ref (G.ad 3 0), .ref (G.ad 0 0)] (cct G (pg d kp as un to sc fd tp sh) sp) (fun _ : Unit => none) (fun _ => cct G (pg d kp as d to sc fd tp sh) sp) := by
  refine Cm.start (by decide) (Nat.le_of_ble_eq_true rfl) ?_
  intro p e s m below meth c hf hX hC ls hl
  obtain ⟨hx, hb, hr, hml, hown, hts, hlocks⟩ := hf
  have hl : lv_has ls 3 [(0, .ref (G.ad 3 0)), (1, .ref (G.ad 0 0))] := hl
  have hown : s.vm.findClass "OwlEars$World" = some m.cls := hown
  refine lv_aload_n hx hb dX4_become_0 rfl (lv_at hl 1 rfl) ?_
  refine fg_get (C := RX4) (T := TX4) (N := 9) (ci := 0) (g := 0) (i := 0) (v := .ref (G.ad 0 1)) hx hb hown hts hX hC in_X4 rfl (cin rfl) rfl 0 (by decide) q238 (fun _ h => h) rfl dX4_become_1 ?_
  refine lv_aload_n hx hb dX4_become_4 rfl (lv_at hl 0 rfl) ?_
  refine fg_get (C := RX4) (T := TX4) (N := 9) (ci := 0) (g := 3) (i := 0) (v := .ref (G.ad 3 1)) hx hb hown hts hX hC in_X4 rfl (cin rfl) rfl 0 (by decide) q238 (fun _ h => h) rfl dX4_become_5 ?_
  refine fc_S (As := [.ref (G.ad 0 1), .ref (G.ad 3 1)]) (rest := []) hx hb hml hown hts hX hC (m_X4_copy (g1 := 0) (i1 := 1) (g2 := 3) (i2 := 1) (t0 := 0) (ctn := cct G (pg d kp as (bk 1 un d) to sc fd tp sh) sp) (cin rfl) rfl (cin rfl) rfl rfl (by decide) (cb_0 (w := un) (o := d) (by decide) pg3 (bk_0 _ _) rfl)) (lw_S q704 q705 q115 q706) hdS_X4_copy ⟨rfl, rfl⟩ ⟨Nat.le_of_ble_eq_true rfl, Nat.le_of_ble_eq_true rfl⟩ hl.1 rfl (Nat.le_of_ble_eq_true rfl) ⟨Nat.zero_le _, Nat.zero_le _⟩ dX4_become_8 (fun _ H locs hC => ?_)
  refine lv_aload_n hx hb dX4_become_11 rfl (lv_at hl 1 rfl) ?_
  refine fg_get (C := RX4) (T := TX4) (N := 9) (ci := 0) (g := 0) (i := 0) (v := .ref (G.ad 0 2)) hx hb hown hts hX hC in_X4 rfl (cin rfl) rfl 1 (by decide) q241 (fun _ h => h) rfl dX4_become_12 ?_
  refine lv_aload_n hx hb dX4_become_15 rfl (lv_at hl 0 rfl) ?_
  refine fg_get (C := RX4) (T := TX4) (N := 9) (ci := 0) (g := 3) (i := 0) (v := .ref (G.ad 3 2)) hx hb hown hts hX hC in_X4 rfl (cin rfl) rfl 1 (by decide) q241 (fun _ h => h) rfl dX4_become_16 ?_
  refine fc_S (As := [.ref (G.ad 0 2), .ref (G.ad 3 2)]) (rest := []) hx hb hml hown hts hX hC (m_X4_copy (g1 := 0) (i1 := 2) (g2 := 3) (i2 := 2) (t0 := 0) (ctn := cct G (pg d kp as (bk 2 un d) to sc fd tp sh) sp) (cin rfl) rfl (cin rfl) rfl rfl (by decide) (cb_1 (w := un) (o := d) (by decide) pg3 rfl rfl)) (lw_S q704 q705 q115 q706) hdS_X4_copy ⟨rfl, rfl⟩ ⟨Nat.le_of_ble_eq_true rfl, Nat.le_of_ble_eq_true rfl⟩ hl.1 rfl (Nat.le_of_ble_eq_true rfl) ⟨Nat.zero_le _, Nat.zero_le _⟩ dX4_become_19 (fun _ H locs hC => ?_)
  refine lv_aload_n hx hb dX4_become_22 rfl (lv_at hl 1 rfl) ?_
  refine fg_get (C := RX4) (T := TX4) (N := 9) (ci := 0) (g := 0) (i := 0) (v := .ref (G.ad 0 3)) hx hb hown hts hX hC in_X4 rfl (cin rfl) rfl 2 (by decide) q244 (fun _ h => h) rfl dX4_become_23 ?_
  refine lv_aload_n hx hb dX4_become_26 rfl (lv_at hl 0 rfl) ?_
  refine fg_get (C := RX4) (T := TX4) (N := 9) (ci := 0) (g := 3) (i := 0) (v := .ref (G.ad 3 3)) hx hb hown hts hX hC in_X4 rfl (cin rfl) rfl 2 (by decide) q244 (fun _ h => h) rfl dX4_become_27 ?_
  refine fc_S (As := [.ref (G.ad 0 3), .ref (G.ad 3 3)]) (rest := []) hx hb hml hown hts hX hC (m_X4_copy (g1 := 0) (i1 := 3) (g2 := 3) (i2 := 3) (t0 := 0) (ctn := cct G (pg d kp as (bk 3 un d) to sc fd tp sh) sp) (cin rfl) rfl (cin rfl) rfl rfl (by decide) (cb_2 (w := un) (o := d) (by decide) pg3 rfl rfl)) (lw_S q704 q705 q115 q706) hdS_X4_copy ⟨rfl, rfl⟩ ⟨Nat.le_of_ble_eq_true rfl, Nat.le_of_ble_eq_true rfl⟩ hl.1 rfl (Nat.le_of_ble_eq_true rfl) ⟨Nat.zero_le _, Nat.zero_le _⟩ dX4_become_30 (fun _ H locs hC => ?_)
  refine lv_aload_n hx hb dX4_become_33 rfl (lv_at hl 1 rfl) ?_
  refine fg_get (C := RX4) (T := TX4) (N := 9) (ci := 0) (g := 0) (i := 0) (v := .ref (G.ad 0 4)) hx hb hown hts hX hC in_X4 rfl (cin rfl) rfl 3 (by decide) q247 (fun _ h => h) rfl dX4_become_34 ?_
  refine lv_aload_n hx hb dX4_become_37 rfl (lv_at hl 0 rfl) ?_
  refine fg_get (C := RX4) (T := TX4) (N := 9) (ci := 0) (g := 3) (i := 0) (v := .ref (G.ad 3 4)) hx hb hown hts hX hC in_X4 rfl (cin rfl) rfl 3 (by decide) q247 (fun _ h => h) rfl dX4_become_38 ?_
  refine fc_S (As := [.ref (G.ad 0 4), .ref (G.ad 3 4)]) (rest := []) hx hb hml hown hts hX hC (m_X4_copy (g1 := 0) (i1 := 4) (g2 := 3) (i2 := 4) (t0 := 0) (ctn := cct G (pg d kp as (bk 4 un d) to sc fd tp sh) sp) (cin rfl) rfl (cin rfl) rfl rfl (by decide) (cb_3 (w := un) (o := d) (by decide) pg3 rfl rfl)) (lw_S q704 q705 q115 q706) hdS_X4_copy ⟨rfl, rfl⟩ ⟨Nat.le_of_ble_eq_true rfl, Nat.le_of_ble_eq_true rfl⟩ hl.1 rfl (Nat.le_of_ble_eq_true rfl) ⟨Nat.zero_le _, Nat.zero_le _⟩ dX4_become_41 (fun _ H locs hC => ?_)
  refine lv_aload_n hx hb dX4_become_44 rfl (lv_at hl 0 rfl) ?_
  refine lv_aload_n hx hb dX4_become_45 rfl (lv_at hl 1 rfl) ?_
  refine fg_get (C := RX4) (T := TX4) (N := 9) (ci := 0) (g := 0) (i := 0) (v := .int (d 1)) hx hb hown hts hX hC in_X4 rfl (cin rfl) rfl 4 (by decide) q251 (fun _ h => h) rfl dX4_become_46 ?_
  refine fg_put (C := RX4) (T := TX4) (N := 9) (ci := 0) (g := 3) (i := 0) hx hb hown hts hX hC in_X4 tyX4 tyX4_ok nmX4 rfl (cin rfl) rfl 4 (by decide) q251 (fun _ h => h) rfl rfl rfl (Nat.le_of_ble_eq_true rfl) (cct G (pg d kp as (bk 5 un d) to sc fd tp sh) sp) (cb_4 (w := un) (o := d) (by decide) pg3 rfl rfl) dX4_become_49 (fun H locs hC => ?_)
  refine lv_iconst (v := 0) hx hb dX4_become_52 rfl ?_
  refine lv_istore_n (lv' := [(2, .int 0), (0, .ref (G.ad 3 0)), (1, .ref (G.ad 0 0))]) hx hb dX4_become_53 rfl hl (by decide) rfl (fun ls hl => ?_)
  refine lv_iload_n hx hb dX4_become_54 rfl (lv_at hl 0 rfl) ?_
  refine lv_iconst (v := 4) hx hb dX4_become_55 rfl ?_
  refine fj_ge (tgt := 80) hx hb dX4_become_56 (by decide) (fun z_1 => absurd (by decide) z_1) (fun _ => ?_)
  refine lv_aload_n hx hb dX4_become_59 rfl (lv_at hl 2 rfl) ?_
  refine fg_get (C := RX4) (T := TX4) (N := 9) (ci := 0) (g := 0) (i := 0) (v := .ref (G.ad 0 5)) hx hb hown hts hX hC in_X4 rfl (cin rfl) rfl 5 (by decide) q254 (fun _ h => h) rfl dX4_become_60 ?_
  refine lv_iload_n hx hb dX4_become_63 rfl (lv_at hl 0 rfl) ?_
  refine fg_ald (g := 0) (i := 5) (t0 := 1) (ty := .array .int) (v := .ref (G.ad 0 6)) hx hb hX hC (cin rfl) rfl rfl rfl (vin_b rfl) rfl dX4_become_64 ?_
  refine lv_aload_n hx hb dX4_become_65 rfl (lv_at hl 1 rfl) ?_
  refine fg_get (C := RX4) (T := TX4) (N := 9) (ci := 0) (g := 3) (i := 0) (v := .ref (G.ad 3 5)) hx hb hown hts hX hC in_X4 rfl (cin rfl) rfl 5 (by decide) q254 (fun _ h => h) rfl dX4_become_66 ?_
  refine lv_iload_n hx hb dX4_become_69 rfl (lv_at hl 0 rfl) ?_
  refine fg_ald (g := 3) (i := 5) (t0 := 1) (ty := .array .int) (v := .ref (G.ad 3 6)) hx hb hX hC (cin rfl) rfl rfl rfl (vin_b rfl) rfl dX4_become_70 ?_
  refine fc_S (As := [.ref (G.ad 0 6), .ref (G.ad 3 6)]) (rest := []) hx hb hml hown hts hX hC (m_X4_copy (g1 := 0) (i1 := 6) (g2 := 3) (i2 := 6) (t0 := 0) (ctn := cct G (pg d kp as (bk 6 un d) to sc fd tp sh) sp) (cin rfl) rfl (cin rfl) rfl rfl (by decide) (cb_5 (w := un) (o := d) (by decide) pg3 rfl rfl)) (lw_S q704 q705 q115 q706) hdS_X4_copy ⟨rfl, rfl⟩ ⟨Nat.le_of_ble_eq_true rfl, Nat.le_of_ble_eq_true rfl⟩ hl.1 rfl (Nat.le_of_ble_eq_true rfl) ⟨Nat.zero_le _, Nat.zero_le _⟩ dX4_become_71 (fun _ H locs hC => ?_)
  refine lv_iinc (v := 1) (lv' := [(2, .int 1), (0, .ref (G.ad 3 0)), (1, .ref (G.ad 0 0))]) hx hb dX4_become_74 hl (k := 0) rfl rfl (by decide) rfl (fun ls hl => ?_)
  refine lv_goto (tgt := 54) hx hb dX4_become_77 (by decide) ?_
  refine lv_iload_n hx hb dX4_become_54 rfl (lv_at hl 0 rfl) ?_
  refine lv_iconst (v := 4) hx hb dX4_become_55 rfl ?_
  refine fj_ge (tgt := 80) hx hb dX4_become_56 (by decide) (fun z_2 => absurd (by decide) z_2) (fun _ => ?_)
  refine lv_aload_n hx hb dX4_become_59 rfl (lv_at hl 2 rfl) ?_
  refine fg_get (C := RX4) (T := TX4) (N := 9) (ci := 0) (g := 0) (i := 0) (v := .ref (G.ad 0 5)) hx hb hown hts hX hC in_X4 rfl (cin rfl) rfl 5 (by decide) q254 (fun _ h => h) rfl dX4_become_60 ?_
  refine lv_iload_n hx hb dX4_become_63 rfl (lv_at hl 0 rfl) ?_
  refine fg_ald (g := 0) (i := 5) (t0 := 1) (ty := .array .int) (v := .ref (G.ad 0 7)) hx hb hX hC (cin rfl) rfl rfl rfl (vin_b rfl) rfl dX4_become_64 ?_
  refine lv_aload_n hx hb dX4_become_65 rfl (lv_at hl 1 rfl) ?_
  refine fg_get (C := RX4) (T := TX4) (N := 9) (ci := 0) (g := 3) (i := 0) (v := .ref (G.ad 3 5)) hx hb hown hts hX hC in_X4 rfl (cin rfl) rfl 5 (by decide) q254 (fun _ h => h) rfl dX4_become_66 ?_
  refine lv_iload_n hx hb dX4_become_69 rfl (lv_at hl 0 rfl) ?_
  refine fg_ald (g := 3) (i := 5) (t0 := 1) (ty := .array .int) (v := .ref (G.ad 3 7)) hx hb hX hC (cin rfl) rfl rfl rfl (vin_b rfl) rfl dX4_become_70 ?_
  refine fc_S (As := [.ref (G.ad 0 7), .ref (G.ad 3 7)]) (rest := []) hx hb hml hown hts hX hC (m_X4_copy (g1 := 0) (i1 := 7) (g2 := 3) (i2 := 7) (t0 := 0) (ctn := cct G (pg d kp as (bk 7 un d) to sc fd tp sh) sp) (cin rfl) rfl (cin rfl) rfl rfl (by decide) (cb_6 (w := un) (o := d) (by decide) pg3 rfl rfl)) (lw_S q704 q705 q115 q706) hdS_X4_copy ⟨rfl, rfl⟩ ⟨Nat.le_of_ble_eq_true rfl, Nat.le_of_ble_eq_true rfl⟩ hl.1 rfl (Nat.le_of_ble_eq_true rfl) ⟨Nat.zero_le _, Nat.zero_le _⟩ dX4_become_71 (fun _ H locs hC => ?_)
  refine lv_iinc (v := 2) (lv' := [(2, .int 2), (0, .ref (G.ad 3 0)), (1, .ref (G.ad 0 0))]) hx hb dX4_become_74 hl (k := 0) rfl rfl (by decide) rfl (fun ls hl => ?_)
  refine lv_goto (tgt := 54) hx hb dX4_become_77 (by decide) ?_
  refine lv_iload_n hx hb dX4_become_54 rfl (lv_at hl 0 rfl) ?_
  refine lv_iconst (v := 4) hx hb dX4_become_55 rfl ?_
  refine fj_ge (tgt := 80) hx hb dX4_become_56 (by decide) (fun z_3 => absurd (by decide) z_3) (fun _ => ?_)
  refine lv_aload_n hx hb dX4_become_59 rfl (lv_at hl 2 rfl) ?_
  refine fg_get (C := RX4) (T := TX4) (N := 9) (ci := 0) (g := 0) (i := 0) (v := .ref (G.ad 0 5)) hx hb hown hts hX hC in_X4 rfl (cin rfl) rfl 5 (by decide) q254 (fun _ h => h) rfl dX4_become_60 ?_
  refine lv_iload_n hx hb dX4_become_63 rfl (lv_at hl 0 rfl) ?_
  refine fg_ald (g := 0) (i := 5) (t0 := 1) (ty := .array .int) (v := .ref (G.ad 0 8)) hx hb hX hC (cin rfl) rfl rfl rfl (vin_b rfl) rfl dX4_become_64 ?_
  refine lv_aload_n hx hb dX4_become_65 rfl (lv_at hl 1 rfl) ?_
  refine fg_get (C := RX4) (T := TX4) (N := 9) (ci := 0) (g := 3) (i := 0) (v := .ref (G.ad 3 5)) hx hb hown hts hX hC in_X4 rfl (cin rfl) rfl 5 (by decide) q254 (fun _ h => h) rfl dX4_become_66 ?_
  refine lv_iload_n hx hb dX4_become_69 rfl (lv_at hl 0 rfl) ?_
  refine fg_ald (g := 3) (i := 5) (t0 := 1) (ty := .array .int) (v := .ref (G.ad 3 8)) hx hb hX hC (cin rfl) rfl rfl rfl (vin_b rfl) rfl dX4_become_70 ?_
  refine fc_S (As := [.ref (G.ad 0 8), .ref (G.ad 3 8)]) (rest := []) hx hb hml hown hts hX hC (m_X4_copy (g1 := 0) (i1 := 8) (g2 := 3) (i2 := 8) (t0 := 0) (ctn := cct G (pg d kp as (bk 8 un d) to sc fd tp sh) sp) (cin rfl) rfl (cin rfl) rfl rfl (by decide) (cb_7 (w := un) (o := d) (by decide) pg3 rfl rfl)) (lw_S q704 q705 q115 q706) hdS_X4_copy ⟨rfl, rfl⟩ ⟨Nat.le_of_ble_eq_true rfl, Nat.le_of_ble_eq_true rfl⟩ hl.1 rfl (Nat.le_of_ble_eq_true rfl) ⟨Nat.zero_le _, Nat.zero_le _⟩ dX4_become_71 (fun _ H locs hC => ?_)
  refine lv_iinc (v := 3) (lv' := [(2, .int 3), (0, .ref (G.ad 3 0)), (1, .ref (G.ad 0 0))]) hx hb dX4_become_74 hl (k := 0) rfl rfl (by decide) rfl (fun ls hl => ?_)
  refine lv_goto (tgt := 54) hx hb dX4_become_77 (by decide) ?_
  refine lv_iload_n hx hb dX4_become_54 rfl (lv_at hl 0 rfl) ?_
  refine lv_iconst (v := 4) hx hb dX4_become_55 rfl ?_
  refine fj_ge (tgt := 80) hx hb dX4_become_56 (by decide) (fun z_4 => absurd (by decide) z_4) (fun _ => ?_)
  refine lv_aload_n hx hb dX4_become_59 rfl (lv_at hl 2 rfl) ?_
  refine fg_get (C := RX4) (T := TX4) (N := 9) (ci := 0) (g := 0) (i := 0) (v := .ref (G.ad 0 5)) hx hb hown hts hX hC in_X4 rfl (cin rfl) rfl 5 (by decide) q254 (fun _ h => h) rfl dX4_become_60 ?_
  refine lv_iload_n hx hb dX4_become_63 rfl (lv_at hl 0 rfl) ?_
  refine fg_ald (g := 0) (i := 5) (t0 := 1) (ty := .array .int) (v := .ref (G.ad 0 9)) hx hb hX hC (cin rfl) rfl rfl rfl (vin_b rfl) rfl dX4_become_64 ?_
  refine lv_aload_n hx hb dX4_become_65 rfl (lv_at hl 1 rfl) ?_
  refine fg_get (C := RX4) (T := TX4) (N := 9) (ci := 0) (g := 3) (i := 0) (v := .ref (G.ad 3 5)) hx hb hown hts hX hC in_X4 rfl (cin rfl) rfl 5 (by decide) q254 (fun _ h => h) rfl dX4_become_66 ?_
  refine lv_iload_n hx hb dX4_become_69 rfl (lv_at hl 0 rfl) ?_
  refine fg_ald (g := 3) (i := 5) (t0 := 1) (ty := .array .int) (v := .ref (G.ad 3 9)) hx hb hX hC (cin rfl) rfl rfl rfl (vin_b rfl) rfl dX4_become_70 ?_
  refine fc_S (As := [.ref (G.ad 0 9), .ref (G.ad 3 9)]) (rest := []) hx hb hml hown hts hX hC (m_X4_copy (g1 := 0) (i1 := 9) (g2 := 3) (i2 := 9) (t0 := 0) (ctn := cct G (pg d kp as (bk 9 un d) to sc fd tp sh) sp) (cin rfl) rfl (cin rfl) rfl rfl (by decide) (cb_8 (w := un) (o := d) (by decide) pg3 rfl rfl)) (lw_S q704 q705 q115 q706) hdS_X4_copy ⟨rfl, rfl⟩ ⟨Nat.le_of_ble_eq_true rfl, Nat.le_of_ble_eq_true rfl⟩ hl.1 rfl (Nat.le_of_ble_eq_true rfl) ⟨Nat.zero_le _, Nat.zero_le _⟩ dX4_become_71 (fun _ H locs hC => ?_)
  refine lv_iinc (v := 4) (lv' := [(2, .int 4), (0, .ref (G.ad 3 0)), (1, .ref (G.ad 0 0))]) hx hb dX4_become_74 hl (k := 0) rfl rfl (by decide) rfl (fun ls hl => ?_)
  refine lv_goto (tgt := 54) hx hb dX4_become_77 (by decide) ?_
  refine lv_iload_n hx hb dX4_become_54 rfl (lv_at hl 0 rfl) ?_
  refine lv_iconst (v := 4) hx hb dX4_become_55 rfl ?_
  refine fj_ge (tgt := 80) hx hb dX4_become_56 (by decide) (fun _ => ?_) (fun z_5 => absurd z_5 (by decide))
  refine lv_aload_n hx hb dX4_become_80 rfl (lv_at hl 1 rfl) ?_
  refine lv_aload_n hx hb dX4_become_81 rfl (lv_at hl 2 rfl) ?_
  refine fg_get (C := RX4) (T := TX4) (N := 9) (ci := 0) (g := 0) (i := 0) (v := .int (d 0)) hx hb hown hts hX hC in_X4 rfl (cin rfl) rfl 6 (by decide) q258 (fun _ h => h) rfl dX4_become_82 ?_
  refine fg_put (C := RX4) (T := TX4) (N := 9) (ci := 0) (g := 3) (i := 0) hx hb hown hts hX hC in_X4 tyX4 tyX4_ok nmX4 rfl (cin rfl) rfl 6 (by decide) q258 (fun _ h => h) rfl rfl rfl (Nat.le_of_ble_eq_true rfl) (cct G (pg d kp as (bk 10 un d) to sc fd tp sh) sp) (cb_9 (w := un) (o := d) (by decide) pg3 rfl rfl) dX4_become_85 (fun H locs hC => ?_)
  refine lv_aload_n hx hb dX4_become_88 rfl (lv_at hl 1 rfl) ?_
  refine lv_aload_n hx hb dX4_become_89 rfl (lv_at hl 2 rfl) ?_
  refine fg_get (C := RX4) (T := TX4) (N := 9) (ci := 0) (g := 0) (i := 0) (v := .int (d 2)) hx hb hown hts hX hC in_X4 rfl (cin rfl) rfl 7 (by decide) q260 (fun _ h => h) rfl dX4_become_90 ?_
  refine fg_put (C := RX4) (T := TX4) (N := 9) (ci := 0) (g := 3) (i := 0) hx hb hown hts hX hC in_X4 tyX4 tyX4_ok nmX4 rfl (cin rfl) rfl 7 (by decide) q260 (fun _ h => h) rfl rfl rfl (Nat.le_of_ble_eq_true rfl) (cct G (pg d kp as (bk 11 un d) to sc fd tp sh) sp) (cb_10 (w := un) (o := d) (by decide) pg3 rfl rfl) dX4_become_93 (fun H locs hC => ?_)
  refine lv_aload_n hx hb dX4_become_96 rfl (lv_at hl 2 rfl) ?_
  refine fg_get (C := RX4) (T := TX4) (N := 9) (ci := 0) (g := 0) (i := 0) (v := .ref (G.ad 0 10)) hx hb hown hts hX hC in_X4 rfl (cin rfl) rfl 8 (by decide) q262 (fun _ h => h) rfl dX4_become_97 ?_
  refine lv_aload_n hx hb dX4_become_100 rfl (lv_at hl 1 rfl) ?_
  refine fg_get (C := RX4) (T := TX4) (N := 9) (ci := 0) (g := 3) (i := 0) (v := .ref (G.ad 3 10)) hx hb hown hts hX hC in_X4 rfl (cin rfl) rfl 8 (by decide) q262 (fun _ h => h) rfl dX4_become_101 ?_
  refine fc_S (As := [.ref (G.ad 0 10), .ref (G.ad 3 10)]) (rest := []) hx hb hml hown hts hX hC (m_X4_copy (g1 := 0) (i1 := 10) (g2 := 3) (i2 := 10) (t0 := 0) (ctn := cct G (pg d kp as (bk 12 un d) to sc fd tp sh) sp) (cin rfl) rfl (cin rfl) rfl rfl (by decide) (cb_11 (w := un) (o := d) (by decide) pg3 rfl rfl)) (lw_S q704 q705 q115 q706) hdS_X4_copy ⟨rfl, rfl⟩ ⟨Nat.le_of_ble_eq_true rfl, Nat.le_of_ble_eq_true rfl⟩ hl.1 rfl (Nat.le_of_ble_eq_true rfl) ⟨Nat.zero_le _, Nat.zero_le _⟩ dX4_become_104 (fun _ H locs hC => ?_)
  have hC := cc_cong (P' := pg d kp as d to sc fd tp sh) (g := 3) (by decide) pg3 bk_all hC
  exact fr_v hx hb hr hlocks hX hC () rfl rfl dX4_become_107
set_option maxRecDepth 100000 in
theorem m_X4_become_03 {l : Launch} {G : Gc} {d kp as un to sc fd tp sh : Row} {sp : Nat → Option Nat}  : Cm l yX4_become (ws_ yX4_become cX4_become 3 none) ({ frames := 2, cells := 0, slots := 0, locals := 81 }) (cF G) [.ref (G.ad 0 0), .ref (G.ad 3 0)] (cct G (pg d kp as un to sc fd tp sh) sp) (fun _ : Unit => none) (fun _ => cct G (pg un kp as un to sc fd tp sh) sp) := by
  refine Cm.start (by decide) (Nat.le_of_ble_eq_true rfl) ?_
  intro p e s m below meth c hf hX hC ls hl
  obtain ⟨hx, hb, hr, hml, hown, hts, hlocks⟩ := hf
  have hl : lv_has ls 3 [(0, .ref (G.ad 0 0)), (1, .ref (G.ad 3 0))] := hl
  have hown : s.vm.findClass "OwlEars$World" = some m.cls := hown
  refine lv_aload_n hx hb dX4_become_0 rfl (lv_at hl 1 rfl) ?_
  refine fg_get (C := RX4) (T := TX4) (N := 9) (ci := 0) (g := 3) (i := 0) (v := .ref (G.ad 3 1)) hx hb hown hts hX hC in_X4 rfl (cin rfl) rfl 0 (by decide) q238 (fun _ h => h) rfl dX4_become_1 ?_
  refine lv_aload_n hx hb dX4_become_4 rfl (lv_at hl 0 rfl) ?_
  refine fg_get (C := RX4) (T := TX4) (N := 9) (ci := 0) (g := 0) (i := 0) (v := .ref (G.ad 0 1)) hx hb hown hts hX hC in_X4 rfl (cin rfl) rfl 0 (by decide) q238 (fun _ h => h) rfl dX4_become_5 ?_
  refine fc_S (As := [.ref (G.ad 3 1), .ref (G.ad 0 1)]) (rest := []) hx hb hml hown hts hX hC (m_X4_copy (g1 := 3) (i1 := 1) (g2 := 0) (i2 := 1) (t0 := 0) (ctn := cct G (pg (bk 1 d un) kp as un to sc fd tp sh) sp) (cin rfl) rfl (cin rfl) rfl rfl (by decide) (cb_0 (w := d) (o := un) (by decide) pg0 (bk_0 _ _) rfl)) (lw_S q704 q705 q115 q706) hdS_X4_copy ⟨rfl, rfl⟩ ⟨Nat.le_of_ble_eq_true rfl, Nat.le_of_ble_eq_true rfl⟩ hl.1 rfl (Nat.le_of_ble_eq_true rfl) ⟨Nat.zero_le _, Nat.zero_le _⟩ dX4_become_8 (fun _ H locs hC => ?_)
  refine lv_aload_n hx hb dX4_become_11 rfl (lv_at hl 1 rfl) ?_
  refine fg_get (C := RX4) (T := TX4) (N := 9) (ci := 0) (g := 3) (i := 0) (v := .ref (G.ad 3 2)) hx hb hown hts hX hC in_X4 rfl (cin rfl) rfl 1 (by decide) q241 (fun _ h => h) rfl dX4_become_12 ?_
  refine lv_aload_n hx hb dX4_become_15 rfl (lv_at hl 0 rfl) ?_
  refine fg_get (C := RX4) (T := TX4) (N := 9) (ci := 0) (g := 0) (i := 0) (v := .ref (G.ad 0 2)) hx hb hown hts hX hC in_X4 rfl (cin rfl) rfl 1 (by decide) q241 (fun _ h => h) rfl dX4_become_16 ?_
  refine fc_S (As := [.ref (G.ad 3 2), .ref (G.ad 0 2)]) (rest := []) hx hb hml hown hts hX hC (m_X4_copy (g1 := 3) (i1 := 2) (g2 := 0) (i2 := 2) (t0 := 0) (ctn := cct G (pg (bk 2 d un) kp as un to sc fd tp sh) sp) (cin rfl) rfl (cin rfl) rfl rfl (by decide) (cb_1 (w := d) (o := un) (by decide) pg0 rfl rfl)) (lw_S q704 q705 q115 q706) hdS_X4_copy ⟨rfl, rfl⟩ ⟨Nat.le_of_ble_eq_true rfl, Nat.le_of_ble_eq_true rfl⟩ hl.1 rfl (Nat.le_of_ble_eq_true rfl) ⟨Nat.zero_le _, Nat.zero_le _⟩ dX4_become_19 (fun _ H locs hC => ?_)
  refine lv_aload_n hx hb dX4_become_22 rfl (lv_at hl 1 rfl) ?_
  refine fg_get (C := RX4) (T := TX4) (N := 9) (ci := 0) (g := 3) (i := 0) (v := .ref (G.ad 3 3)) hx hb hown hts hX hC in_X4 rfl (cin rfl) rfl 2 (by decide) q244 (fun _ h => h) rfl dX4_become_23 ?_
  refine lv_aload_n hx hb dX4_become_26 rfl (lv_at hl 0 rfl) ?_
  refine fg_get (C := RX4) (T := TX4) (N := 9) (ci := 0) (g := 0) (i := 0) (v := .ref (G.ad 0 3)) hx hb hown hts hX hC in_X4 rfl (cin rfl) rfl 2 (by decide) q244 (fun _ h => h) rfl dX4_become_27 ?_
  refine fc_S (As := [.ref (G.ad 3 3), .ref (G.ad 0 3)]) (rest := []) hx hb hml hown hts hX hC (m_X4_copy (g1 := 3) (i1 := 3) (g2 := 0) (i2 := 3) (t0 := 0) (ctn := cct G (pg (bk 3 d un) kp as un to sc fd tp sh) sp) (cin rfl) rfl (cin rfl) rfl rfl (by decide) (cb_2 (w := d) (o := un) (by decide) pg0 rfl rfl)) (lw_S q704 q705 q115 q706) hdS_X4_copy ⟨rfl, rfl⟩ ⟨Nat.le_of_ble_eq_true rfl, Nat.le_of_ble_eq_true rfl⟩ hl.1 rfl (Nat.le_of_ble_eq_true rfl) ⟨Nat.zero_le _, Nat.zero_le _⟩ dX4_become_30 (fun _ H locs hC => ?_)
  refine lv_aload_n hx hb dX4_become_33 rfl (lv_at hl 1 rfl) ?_
  refine fg_get (C := RX4) (T := TX4) (N := 9) (ci := 0) (g := 3) (i := 0) (v := .ref (G.ad 3 4)) hx hb hown hts hX hC in_X4 rfl (cin rfl) rfl 3 (by decide) q247 (fun _ h => h) rfl dX4_become_34 ?_
  refine lv_aload_n hx hb dX4_become_37 rfl (lv_at hl 0 rfl) ?_
  refine fg_get (C := RX4) (T := TX4) (N := 9) (ci := 0) (g := 0) (i := 0) (v := .ref (G.ad 0 4)) hx hb hown hts hX hC in_X4 rfl (cin rfl) rfl 3 (by decide) q247 (fun _ h => h) rfl dX4_become_38 ?_
  refine fc_S (As := [.ref (G.ad 3 4), .ref (G.ad 0 4)]) (rest := []) hx hb hml hown hts hX hC (m_X4_copy (g1 := 3) (i1 := 4) (g2 := 0) (i2 := 4) (t0 := 0) (ctn := cct G (pg (bk 4 d un) kp as un to sc fd tp sh) sp) (cin rfl) rfl (cin rfl) rfl rfl (by decide) (cb_3 (w := d) (o := un) (by decide) pg0 rfl rfl)) (lw_S q704 q705 q115 q706) hdS_X4_copy ⟨rfl, rfl⟩ ⟨Nat.le_of_ble_eq_true rfl, Nat.le_of_ble_eq_true rfl⟩ hl.1 rfl (Nat.le_of_ble_eq_true rfl) ⟨Nat.zero_le _, Nat.zero_le _⟩ dX4_become_41 (fun _ H locs hC => ?_)
  refine lv_aload_n hx hb dX4_become_44 rfl (lv_at hl 0 rfl) ?_
  refine lv_aload_n hx hb dX4_become_45 rfl (lv_at hl 1 rfl) ?_
  refine fg_get (C := RX4) (T := TX4) (N := 9) (ci := 0) (g := 3) (i := 0) (v := .int (un 1)) hx hb hown hts hX hC in_X4 rfl (cin rfl) rfl 4 (by decide) q251 (fun _ h => h) rfl dX4_become_46 ?_
  refine fg_put (C := RX4) (T := TX4) (N := 9) (ci := 0) (g := 0) (i := 0) hx hb hown hts hX hC in_X4 tyX4 tyX4_ok nmX4 rfl (cin rfl) rfl 4 (by decide) q251 (fun _ h => h) rfl rfl rfl (Nat.le_of_ble_eq_true rfl) (cct G (pg (bk 5 d un) kp as un to sc fd tp sh) sp) (cb_4 (w := d) (o := un) (by decide) pg0 rfl rfl) dX4_become_49 (fun H locs hC => ?_)
  refine lv_iconst (v := 0) hx hb dX4_become_52 rfl ?_
  refine lv_istore_n (lv' := [(2, .int 0), (0, .ref (G.ad 0 0)), (1, .ref (G.ad 3 0))]) hx hb dX4_become_53 rfl hl (by decide) rfl (fun ls hl => ?_)
  refine lv_iload_n hx hb dX4_become_54 rfl (lv_at hl 0 rfl) ?_
  refine lv_iconst (v := 4) hx hb dX4_become_55 rfl ?_
  refine fj_ge (tgt := 80) hx hb dX4_become_56 (by decide) (fun z_1 => absurd (by decide) z_1) (fun _ => ?_)
  refine lv_aload_n hx hb dX4_become_59 rfl (lv_at hl 2 rfl) ?_
  refine fg_get (C := RX4) (T := TX4) (N := 9) (ci := 0) (g := 3) (i := 0) (v := .ref (G.ad 3 5)) hx hb hown hts hX hC in_X4 rfl (cin rfl) rfl 5 (by decide) q254 (fun _ h => h) rfl dX4_become_60 ?_
  refine lv_iload_n hx hb dX4_become_63 rfl (lv_at hl 0 rfl) ?_
  refine fg_ald (g := 3) (i := 5) (t0 := 1) (ty := .array .int) (v := .ref (G.ad 3 6)) hx hb hX hC (cin rfl) rfl rfl rfl (vin_b rfl) rfl dX4_become_64 ?_
  refine lv_aload_n hx hb dX4_become_65 rfl (lv_at hl 1 rfl) ?_
  refine fg_get (C := RX4) (T := TX4) (N := 9) (ci := 0) (g := 0) (i := 0) (v := .ref (G.ad 0 5)) hx hb hown hts hX hC in_X4 rfl (cin rfl) rfl 5 (by decide) q254 (fun _ h => h) rfl dX4_become_66 ?_
  refine lv_iload_n hx hb dX4_become_69 rfl (lv_at hl 0 rfl) ?_
  refine fg_ald (g := 0) (i := 5) (t0 := 1) (ty := .array .int) (v := .ref (G.ad 0 6)) hx hb hX hC (cin rfl) rfl rfl rfl (vin_b rfl) rfl dX4_become_70 ?_
  refine fc_S (As := [.ref (G.ad 3 6), .ref (G.ad 0 6)]) (rest := []) hx hb hml hown hts hX hC (m_X4_copy (g1 := 3) (i1 := 6) (g2 := 0) (i2 := 6) (t0 := 0) (ctn := cct G (pg (bk 6 d un) kp as un to sc fd tp sh) sp) (cin rfl) rfl (cin rfl) rfl rfl (by decide) (cb_5 (w := d) (o := un) (by decide) pg0 rfl rfl)) (lw_S q704 q705 q115 q706) hdS_X4_copy ⟨rfl, rfl⟩ ⟨Nat.le_of_ble_eq_true rfl, Nat.le_of_ble_eq_true rfl⟩ hl.1 rfl (Nat.le_of_ble_eq_true rfl) ⟨Nat.zero_le _, Nat.zero_le _⟩ dX4_become_71 (fun _ H locs hC => ?_)
  refine lv_iinc (v := 1) (lv' := [(2, .int 1), (0, .ref (G.ad 0 0)), (1, .ref (G.ad 3 0))]) hx hb dX4_become_74 hl (k := 0) rfl rfl (by decide) rfl (fun ls hl => ?_)
  refine lv_goto (tgt := 54) hx hb dX4_become_77 (by decide) ?_
  refine lv_iload_n hx hb dX4_become_54 rfl (lv_at hl 0 rfl) ?_
  refine lv_iconst (v := 4) hx hb dX4_become_55 rfl ?_
  refine fj_ge (tgt := 80) hx hb dX4_become_56 (by decide) (fun z_2 => absurd (by decide) z_2) (fun _ => ?_)
  refine lv_aload_n hx hb dX4_become_59 rfl (lv_at hl 2 rfl) ?_
  refine fg_get (C := RX4) (T := TX4) (N := 9) (ci := 0) (g := 3) (i := 0) (v := .ref (G.ad 3 5)) hx hb hown hts hX hC in_X4 rfl (cin rfl) rfl 5 (by decide) q254 (fun _ h => h) rfl dX4_become_60 ?_
  refine lv_iload_n hx hb dX4_become_63 rfl (lv_at hl 0 rfl) ?_
  refine fg_ald (g := 3) (i := 5) (t0 := 1) (ty := .array .int) (v := .ref (G.ad 3 7)) hx hb hX hC (cin rfl) rfl rfl rfl (vin_b rfl) rfl dX4_become_64 ?_
  refine lv_aload_n hx hb dX4_become_65 rfl (lv_at hl 1 rfl) ?_
  refine fg_get (C := RX4) (T := TX4) (N := 9) (ci := 0) (g := 0) (i := 0) (v := .ref (G.ad 0 5)) hx hb hown hts hX hC in_X4 rfl (cin rfl) rfl 5 (by decide) q254 (fun _ h => h) rfl dX4_become_66 ?_
  refine lv_iload_n hx hb dX4_become_69 rfl (lv_at hl 0 rfl) ?_
  refine fg_ald (g := 0) (i := 5) (t0 := 1) (ty := .array .int) (v := .ref (G.ad 0 7)) hx hb hX hC (cin rfl) rfl rfl rfl (vin_b rfl) rfl dX4_become_70 ?_
  refine fc_S (As := [.ref (G.ad 3 7), .ref (G.ad 0 7)]) (rest := []) hx hb hml hown hts hX hC (m_X4_copy (g1 := 3) (i1 := 7) (g2 := 0) (i2 := 7) (t0 := 0) (ctn := cct G (pg (bk 7 d un) kp as un to sc fd tp sh) sp) (cin rfl) rfl (cin rfl) rfl rfl (by decide) (cb_6 (w := d) (o := un) (by decide) pg0 rfl rfl)) (lw_S q704 q705 q115 q706) hdS_X4_copy ⟨rfl, rfl⟩ ⟨Nat.le_of_ble_eq_true rfl, Nat.le_of_ble_eq_true rfl⟩ hl.1 rfl (Nat.le_of_ble_eq_true rfl) ⟨Nat.zero_le _, Nat.zero_le _⟩ dX4_become_71 (fun _ H locs hC => ?_)
  refine lv_iinc (v := 2) (lv' := [(2, .int 2), (0, .ref (G.ad 0 0)), (1, .ref (G.ad 3 0))]) hx hb dX4_become_74 hl (k := 0) rfl rfl (by decide) rfl (fun ls hl => ?_)
  refine lv_goto (tgt := 54) hx hb dX4_become_77 (by decide) ?_
  refine lv_iload_n hx hb dX4_become_54 rfl (lv_at hl 0 rfl) ?_
  refine lv_iconst (v := 4) hx hb dX4_become_55 rfl ?_
  refine fj_ge (tgt := 80) hx hb dX4_become_56 (by decide) (fun z_3 => absurd (by decide) z_3) (fun _ => ?_)
  refine lv_aload_n hx hb dX4_become_59 rfl (lv_at hl 2 rfl) ?_
  refine fg_get (C := RX4) (T := TX4) (N := 9) (ci := 0) (g := 3) (i := 0) (v := .ref (G.ad 3 5)) hx hb hown hts hX hC in_X4 rfl (cin rfl) rfl 5 (by decide) q254 (fun _ h => h) rfl dX4_become_60 ?_
  refine lv_iload_n hx hb dX4_become_63 rfl (lv_at hl 0 rfl) ?_
  refine fg_ald (g := 3) (i := 5) (t0 := 1) (ty := .array .int) (v := .ref (G.ad 3 8)) hx hb hX hC (cin rfl) rfl rfl rfl (vin_b rfl) rfl dX4_become_64 ?_
  refine lv_aload_n hx hb dX4_become_65 rfl (lv_at hl 1 rfl) ?_
  refine fg_get (C := RX4) (T := TX4) (N := 9) (ci := 0) (g := 0) (i := 0) (v := .ref (G.ad 0 5)) hx hb hown hts hX hC in_X4 rfl (cin rfl) rfl 5 (by decide) q254 (fun _ h => h) rfl dX4_become_66 ?_
  refine lv_iload_n hx hb dX4_become_69 rfl (lv_at hl 0 rfl) ?_
  refine fg_ald (g := 0) (i := 5) (t0 := 1) (ty := .array .int) (v := .ref (G.ad 0 8)) hx hb hX hC (cin rfl) rfl rfl rfl (vin_b rfl) rfl dX4_become_70 ?_
  refine fc_S (As := [.ref (G.ad 3 8), .ref (G.ad 0 8)]) (rest := []) hx hb hml hown hts hX hC (m_X4_copy (g1 := 3) (i1 := 8) (g2 := 0) (i2 := 8) (t0 := 0) (ctn := cct G (pg (bk 8 d un) kp as un to sc fd tp sh) sp) (cin rfl) rfl (cin rfl) rfl rfl (by decide) (cb_7 (w := d) (o := un) (by decide) pg0 rfl rfl)) (lw_S q704 q705 q115 q706) hdS_X4_copy ⟨rfl, rfl⟩ ⟨Nat.le_of_ble_eq_true rfl, Nat.le_of_ble_eq_true rfl⟩ hl.1 rfl (Nat.le_of_ble_eq_true rfl) ⟨Nat.zero_le _, Nat.zero_le _⟩ dX4_become_71 (fun _ H locs hC => ?_)
  refine lv_iinc (v := 3) (lv' := [(2, .int 3), (0, .ref (G.ad 0 0)), (1, .ref (G.ad 3 0))]) hx hb dX4_become_74 hl (k := 0) rfl rfl (by decide) rfl (fun ls hl => ?_)
  refine lv_goto (tgt := 54) hx hb dX4_become_77 (by decide) ?_
  refine lv_iload_n hx hb dX4_become_54 rfl (lv_at hl 0 rfl) ?_
  refine lv_iconst (v := 4) hx hb dX4_become_55 rfl ?_
  refine fj_ge (tgt := 80) hx hb dX4_become_56 (by decide) (fun z_4 => absurd (by decide) z_4) (fun _ => ?_)
  refine lv_aload_n hx hb dX4_become_59 rfl (lv_at hl 2 rfl) ?_
  refine fg_get (C := RX4) (T := TX4) (N := 9) (ci := 0) (g := 3) (i := 0) (v := .ref (G.ad 3 5)) hx hb hown hts hX hC in_X4 rfl (cin rfl) rfl 5 (by decide) q254 (fun _ h => h) rfl dX4_become_60 ?_
  refine lv_iload_n hx hb dX4_become_63 rfl (lv_at hl 0 rfl) ?_
  refine fg_ald (g := 3) (i := 5) (t0 := 1) (ty := .array .int) (v := .ref (G.ad 3 9)) hx hb hX hC (cin rfl) rfl rfl rfl (vin_b rfl) rfl dX4_become_64 ?_
  refine lv_aload_n hx hb dX4_become_65 rfl (lv_at hl 1 rfl) ?_
  refine fg_get (C := RX4) (T := TX4) (N := 9) (ci := 0) (g := 0) (i := 0) (v := .ref (G.ad 0 5)) hx hb hown hts hX hC in_X4 rfl (cin rfl) rfl 5 (by decide) q254 (fun _ h => h) rfl dX4_become_66 ?_
  refine lv_iload_n hx hb dX4_become_69 rfl (lv_at hl 0 rfl) ?_
  refine fg_ald (g := 0) (i := 5) (t0 := 1) (ty := .array .int) (v := .ref (G.ad 0 9)) hx hb hX hC (cin rfl) rfl rfl rfl (vin_b rfl) rfl dX4_become_70 ?_
  refine fc_S (As := [.ref (G.ad 3 9), .ref (G.ad 0 9)]) (rest := []) hx hb hml hown hts hX hC (m_X4_copy (g1 := 3) (i1 := 9) (g2 := 0) (i2 := 9) (t0 := 0) (ctn := cct G (pg (bk 9 d un) kp as un to sc fd tp sh) sp) (cin rfl) rfl (cin rfl) rfl rfl (by decide) (cb_8 (w := d) (o := un) (by decide) pg0 rfl rfl)) (lw_S q704 q705 q115 q706) hdS_X4_copy ⟨rfl, rfl⟩ ⟨Nat.le_of_ble_eq_true rfl, Nat.le_of_ble_eq_true rfl⟩ hl.1 rfl (Nat.le_of_ble_eq_true rfl) ⟨Nat.zero_le _, Nat.zero_le _⟩ dX4_become_71 (fun _ H locs hC => ?_)
  refine lv_iinc (v := 4) (lv' := [(2, .int 4), (0, .ref (G.ad 0 0)), (1, .ref (G.ad 3 0))]) hx hb dX4_become_74 hl (k := 0) rfl rfl (by decide) rfl (fun ls hl => ?_)
  refine lv_goto (tgt := 54) hx hb dX4_become_77 (by decide) ?_
  refine lv_iload_n hx hb dX4_become_54 rfl (lv_at hl 0 rfl) ?_
  refine lv_iconst (v := 4) hx hb dX4_become_55 rfl ?_
  refine fj_ge (tgt := 80) hx hb dX4_become_56 (by decide) (fun _ => ?_) (fun z_5 => absurd z_5 (by decide))
  refine lv_aload_n hx hb dX4_become_80 rfl (lv_at hl 1 rfl) ?_
  refine lv_aload_n hx hb dX4_become_81 rfl (lv_at hl 2 rfl) ?_
  refine fg_get (C := RX4) (T := TX4) (N := 9) (ci := 0) (g := 3) (i := 0) (v := .int (un 0)) hx hb hown hts hX hC in_X4 rfl (cin rfl) rfl 6 (by decide) q258 (fun _ h => h) rfl dX4_become_82 ?_
  refine fg_put (C := RX4) (T := TX4) (N := 9) (ci := 0) (g := 0) (i := 0) hx hb hown hts hX hC in_X4 tyX4 tyX4_ok nmX4 rfl (cin rfl) rfl 6 (by decide) q258 (fun _ h => h) rfl rfl rfl (Nat.le_of_ble_eq_true rfl) (cct G (pg (bk 10 d un) kp as un to sc fd tp sh) sp) (cb_9 (w := d) (o := un) (by decide) pg0 rfl rfl) dX4_become_85 (fun H locs hC => ?_)
  refine lv_aload_n hx hb dX4_become_88 rfl (lv_at hl 1 rfl) ?_
  refine lv_aload_n hx hb dX4_become_89 rfl (lv_at hl 2 rfl) ?_
  refine fg_get (C := RX4) (T := TX4) (N := 9) (ci := 0) (g := 3) (i := 0) (v := .int (un 2)) hx hb hown hts hX hC in_X4 rfl (cin rfl) rfl 7 (by decide) q260 (fun _ h => h) rfl dX4_become_90 ?_
  refine fg_put (C := RX4) (T := TX4) (N := 9) (ci := 0) (g := 0) (i := 0) hx hb hown hts hX hC in_X4 tyX4 tyX4_ok nmX4 rfl (cin rfl) rfl 7 (by decide) q260 (fun _ h => h) rfl rfl rfl (Nat.le_of_ble_eq_true rfl) (cct G (pg (bk 11 d un) kp as un to sc fd tp sh) sp) (cb_10 (w := d) (o := un) (by decide) pg0 rfl rfl) dX4_become_93 (fun H locs hC => ?_)
  refine lv_aload_n hx hb dX4_become_96 rfl (lv_at hl 2 rfl) ?_
  refine fg_get (C := RX4) (T := TX4) (N := 9) (ci := 0) (g := 3) (i := 0) (v := .ref (G.ad 3 10)) hx hb hown hts hX hC in_X4 rfl (cin rfl) rfl 8 (by decide) q262 (fun _ h => h) rfl dX4_become_97 ?_
  refine lv_aload_n hx hb dX4_become_100 rfl (lv_at hl 1 rfl) ?_
  refine fg_get (C := RX4) (T := TX4) (N := 9) (ci := 0) (g := 0) (i := 0) (v := .ref (G.ad 0 10)) hx hb hown hts hX hC in_X4 rfl (cin rfl) rfl 8 (by decide) q262 (fun _ h => h) rfl dX4_become_101 ?_
  refine fc_S (As := [.ref (G.ad 3 10), .ref (G.ad 0 10)]) (rest := []) hx hb hml hown hts hX hC (m_X4_copy (g1 := 3) (i1 := 10) (g2 := 0) (i2 := 10) (t0 := 0) (ctn := cct G (pg (bk 12 d un) kp as un to sc fd tp sh) sp) (cin rfl) rfl (cin rfl) rfl rfl (by decide) (cb_11 (w := d) (o := un) (by decide) pg0 rfl rfl)) (lw_S q704 q705 q115 q706) hdS_X4_copy ⟨rfl, rfl⟩ ⟨Nat.le_of_ble_eq_true rfl, Nat.le_of_ble_eq_true rfl⟩ hl.1 rfl (Nat.le_of_ble_eq_true rfl) ⟨Nat.zero_le _, Nat.zero_le _⟩ dX4_become_104 (fun _ H locs hC => ?_)
  have hC := cc_cong (P' := pg un kp as un to sc fd tp sh) (g := 0) (by decide) pg0 bk_all hC
  exact fr_v hx hb hr hlocks hX hC () rfl rfl dX4_become_107
set_option maxRecDepth 100000 in
theorem m_X4_become_10 {l : Launch} {G : Gc} {d kp as un to sc fd tp sh : Row} {sp : Nat → Option Nat}  : Cm l yX4_become (ws_ yX4_become cX4_become 3 none) ({ frames := 2, cells := 0, slots := 0, locals := 81 }) (cF G) [.ref (G.ad 1 0), .ref (G.ad 0 0)] (cct G (pg d kp as un to sc fd tp sh) sp) (fun _ : Unit => none) (fun _ => cct G (pg d d as un to sc fd tp sh) sp) := by
  refine Cm.start (by decide) (Nat.le_of_ble_eq_true rfl) ?_
  intro p e s m below meth c hf hX hC ls hl
  obtain ⟨hx, hb, hr, hml, hown, hts, hlocks⟩ := hf
  have hl : lv_has ls 3 [(0, .ref (G.ad 1 0)), (1, .ref (G.ad 0 0))] := hl
  have hown : s.vm.findClass "OwlEars$World" = some m.cls := hown
  refine lv_aload_n hx hb dX4_become_0 rfl (lv_at hl 1 rfl) ?_
  refine fg_get (C := RX4) (T := TX4) (N := 9) (ci := 0) (g := 0) (i := 0) (v := .ref (G.ad 0 1)) hx hb hown hts hX hC in_X4 rfl (cin rfl) rfl 0 (by decide) q238 (fun _ h => h) rfl dX4_become_1 ?_
  refine lv_aload_n hx hb dX4_become_4 rfl (lv_at hl 0 rfl) ?_
  refine fg_get (C := RX4) (T := TX4) (N := 9) (ci := 0) (g := 1) (i := 0) (v := .ref (G.ad 1 1)) hx hb hown hts hX hC in_X4 rfl (cin rfl) rfl 0 (by decide) q238 (fun _ h => h) rfl dX4_become_5 ?_
  refine fc_S (As := [.ref (G.ad 0 1), .ref (G.ad 1 1)]) (rest := []) hx hb hml hown hts hX hC (m_X4_copy (g1 := 0) (i1 := 1) (g2 := 1) (i2 := 1) (t0 := 0) (ctn := cct G (pg d (bk 1 kp d) as un to sc fd tp sh) sp) (cin rfl) rfl (cin rfl) rfl rfl (by decide) (cb_0 (w := kp) (o := d) (by decide) pg1 (bk_0 _ _) rfl)) (lw_S q704 q705 q115 q706) hdS_X4_copy ⟨rfl, rfl⟩ ⟨Nat.le_of_ble_eq_true rfl, Nat.le_of_ble_eq_true rfl⟩ hl.1 rfl (Nat.le_of_ble_eq_true rfl) ⟨Nat.zero_le _, Nat.zero_le _⟩ dX4_become_8 (fun _ H locs hC => ?_)
  refine lv_aload_n hx hb dX4_become_11 rfl (lv_at hl 1 rfl) ?_
  refine fg_get (C := RX4) (T := TX4) (N := 9) (ci := 0) (g := 0) (i := 0) (v := .ref (G.ad 0 2)) hx hb hown hts hX hC in_X4 rfl (cin rfl) rfl 1 (by decide) q241 (fun _ h => h) rfl dX4_become_12 ?_
  refine lv_aload_n hx hb dX4_become_15 rfl (lv_at hl 0 rfl) ?_
  refine fg_get (C := RX4) (T := TX4) (N := 9) (ci := 0) (g := 1) (i := 0) (v := .ref (G.ad 1 2)) hx hb hown hts hX hC in_X4 rfl (cin rfl) rfl 1 (by decide) q241 (fun _ h => h) rfl dX4_become_16 ?_
  refine fc_S (As := [.ref (G.ad 0 2), .ref (G.ad 1 2)]) (rest := []) hx hb hml hown hts hX hC (m_X4_copy (g1 := 0) (i1 := 2) (g2 := 1) (i2 := 2) (t0 := 0) (ctn := cct G (pg d (bk 2 kp d) as un to sc fd tp sh) sp) (cin rfl) rfl (cin rfl) rfl rfl (by decide) (cb_1 (w := kp) (o := d) (by decide) pg1 rfl rfl)) (lw_S q704 q705 q115 q706) hdS_X4_copy ⟨rfl, rfl⟩ ⟨Nat.le_of_ble_eq_true rfl, Nat.le_of_ble_eq_true rfl⟩ hl.1 rfl (Nat.le_of_ble_eq_true rfl) ⟨Nat.zero_le _, Nat.zero_le _⟩ dX4_become_19 (fun _ H locs hC => ?_)
  refine lv_aload_n hx hb dX4_become_22 rfl (lv_at hl 1 rfl) ?_
  refine fg_get (C := RX4) (T := TX4) (N := 9) (ci := 0) (g := 0) (i := 0) (v := .ref (G.ad 0 3)) hx hb hown hts hX hC in_X4 rfl (cin rfl) rfl 2 (by decide) q244 (fun _ h => h) rfl dX4_become_23 ?_
  refine lv_aload_n hx hb dX4_become_26 rfl (lv_at hl 0 rfl) ?_
  refine fg_get (C := RX4) (T := TX4) (N := 9) (ci := 0) (g := 1) (i := 0) (v := .ref (G.ad 1 3)) hx hb hown hts hX hC in_X4 rfl (cin rfl) rfl 2 (by decide) q244 (fun _ h => h) rfl dX4_become_27 ?_
  refine fc_S (As := [.ref (G.ad 0 3), .ref (G.ad 1 3)]) (rest := []) hx hb hml hown hts hX hC (m_X4_copy (g1 := 0) (i1 := 3) (g2 := 1) (i2 := 3) (t0 := 0) (ctn := cct G (pg d (bk 3 kp d) as un to sc fd tp sh) sp) (cin rfl) rfl (cin rfl) rfl rfl (by decide) (cb_2 (w := kp) (o := d) (by decide) pg1 rfl rfl)) (lw_S q704 q705 q115 q706) hdS_X4_copy ⟨rfl, rfl⟩ ⟨Nat.le_of_ble_eq_true rfl, Nat.le_of_ble_eq_true rfl⟩ hl.1 rfl (Nat.le_of_ble_eq_true rfl) ⟨Nat.zero_le _, Nat.zero_le _⟩ dX4_become_30 (fun _ H locs hC => ?_)
  refine lv_aload_n hx hb dX4_become_33 rfl (lv_at hl 1 rfl) ?_
  refine fg_get (C := RX4) (T := TX4) (N := 9) (ci := 0) (g := 0) (i := 0) (v := .ref (G.ad 0 4)) hx hb hown hts hX hC in_X4 rfl (cin rfl) rfl 3 (by decide) q247 (fun _ h => h) rfl dX4_become_34 ?_
  refine lv_aload_n hx hb dX4_become_37 rfl (lv_at hl 0 rfl) ?_
  refine fg_get (C := RX4) (T := TX4) (N := 9) (ci := 0) (g := 1) (i := 0) (v := .ref (G.ad 1 4)) hx hb hown hts hX hC in_X4 rfl (cin rfl) rfl 3 (by decide) q247 (fun _ h => h) rfl dX4_become_38 ?_
  refine fc_S (As := [.ref (G.ad 0 4), .ref (G.ad 1 4)]) (rest := []) hx hb hml hown hts hX hC (m_X4_copy (g1 := 0) (i1 := 4) (g2 := 1) (i2 := 4) (t0 := 0) (ctn := cct G (pg d (bk 4 kp d) as un to sc fd tp sh) sp) (cin rfl) rfl (cin rfl) rfl rfl (by decide) (cb_3 (w := kp) (o := d) (by decide) pg1 rfl rfl)) (lw_S q704 q705 q115 q706) hdS_X4_copy ⟨rfl, rfl⟩ ⟨Nat.le_of_ble_eq_true rfl, Nat.le_of_ble_eq_true rfl⟩ hl.1 rfl (Nat.le_of_ble_eq_true rfl) ⟨Nat.zero_le _, Nat.zero_le _⟩ dX4_become_41 (fun _ H locs hC => ?_)
  refine lv_aload_n hx hb dX4_become_44 rfl (lv_at hl 0 rfl) ?_
  refine lv_aload_n hx hb dX4_become_45 rfl (lv_at hl 1 rfl) ?_
  refine fg_get (C := RX4) (T := TX4) (N := 9) (ci := 0) (g := 0) (i := 0) (v := .int (d 1)) hx hb hown hts hX hC in_X4 rfl (cin rfl) rfl 4 (by decide) q251 (fun _ h => h) rfl dX4_become_46 ?_
  refine fg_put (C := RX4) (T := TX4) (N := 9) (ci := 0) (g := 1) (i := 0) hx hb hown hts hX hC in_X4 tyX4 tyX4_ok nmX4 rfl (cin rfl) rfl 4 (by decide) q251 (fun _ h => h) rfl rfl rfl (Nat.le_of_ble_eq_true rfl) (cct G (pg d (bk 5 kp d) as un to sc fd tp sh) sp) (cb_4 (w := kp) (o := d) (by decide) pg1 rfl rfl) dX4_become_49 (fun H locs hC => ?_)
  refine lv_iconst (v := 0) hx hb dX4_become_52 rfl ?_
  refine lv_istore_n (lv' := [(2, .int 0), (0, .ref (G.ad 1 0)), (1, .ref (G.ad 0 0))]) hx hb dX4_become_53 rfl hl (by decide) rfl (fun ls hl => ?_)
  refine lv_iload_n hx hb dX4_become_54 rfl (lv_at hl 0 rfl) ?_
  refine lv_iconst (v := 4) hx hb dX4_become_55 rfl ?_
  refine fj_ge (tgt := 80) hx hb dX4_become_56 (by decide) (fun z_1 => absurd (by decide) z_1) (fun _ => ?_)
  refine lv_aload_n hx hb dX4_become_59 rfl (lv_at hl 2 rfl) ?_
  refine fg_get (C := RX4) (T := TX4) (N := 9) (ci := 0) (g := 0) (i := 0) (v := .ref (G.ad 0 5)) hx hb hown hts hX hC in_X4 rfl (cin rfl) rfl 5 (by decide) q254 (fun _ h => h) rfl dX4_become_60 ?_
  refine lv_iload_n hx hb dX4_become_63 rfl (lv_at hl 0 rfl) ?_
  refine fg_ald (g := 0) (i := 5) (t0 := 1) (ty := .array .int) (v := .ref (G.ad 0 6)) hx hb hX hC (cin rfl) rfl rfl rfl (vin_b rfl) rfl dX4_become_64 ?_
  refine lv_aload_n hx hb dX4_become_65 rfl (lv_at hl 1 rfl) ?_
  refine fg_get (C := RX4) (T := TX4) (N := 9) (ci := 0) (g := 1) (i := 0) (v := .ref (G.ad 1 5)) hx hb hown hts hX hC in_X4 rfl (cin rfl) rfl 5 (by decide) q254 (fun _ h => h) rfl dX4_become_66 ?_
  refine lv_iload_n hx hb dX4_become_69 rfl (lv_at hl 0 rfl) ?_
  refine fg_ald (g := 1) (i := 5) (t0 := 1) (ty := .array .int) (v := .ref (G.ad 1 6)) hx hb hX hC (cin rfl) rfl rfl rfl (vin_b rfl) rfl dX4_become_70 ?_
  refine fc_S (As := [.ref (G.ad 0 6), .ref (G.ad 1 6)]) (rest := []) hx hb hml hown hts hX hC (m_X4_copy (g1 := 0) (i1 := 6) (g2 := 1) (i2 := 6) (t0 := 0) (ctn := cct G (pg d (bk 6 kp d) as un to sc fd tp sh) sp) (cin rfl) rfl (cin rfl) rfl rfl (by decide) (cb_5 (w := kp) (o := d) (by decide) pg1 rfl rfl)) (lw_S q704 q705 q115 q706) hdS_X4_copy ⟨rfl, rfl⟩ ⟨Nat.le_of_ble_eq_true rfl, Nat.le_of_ble_eq_true rfl⟩ hl.1 rfl (Nat.le_of_ble_eq_true rfl) ⟨Nat.zero_le _, Nat.zero_le _⟩ dX4_become_71 (fun _ H locs hC => ?_)
  refine lv_iinc (v := 1) (lv' := [(2, .int 1), (0, .ref (G.ad 1 0)), (1, .ref (G.ad 0 0))]) hx hb dX4_become_74 hl (k := 0) rfl rfl (by decide) rfl (fun ls hl => ?_)
  refine lv_goto (tgt := 54) hx hb dX4_become_77 (by decide) ?_
  refine lv_iload_n hx hb dX4_become_54 rfl (lv_at hl 0 rfl) ?_
  refine lv_iconst (v := 4) hx hb dX4_become_55 rfl ?_
  refine fj_ge (tgt := 80) hx hb dX4_become_56 (by decide) (fun z_2 => absurd (by decide) z_2) (fun _ => ?_)
  refine lv_aload_n hx hb dX4_become_59 rfl (lv_at hl 2 rfl) ?_
  refine fg_get (C := RX4) (T := TX4) (N := 9) (ci := 0) (g := 0) (i := 0) (v := .ref (G.ad 0 5)) hx hb hown hts hX hC in_X4 rfl (cin rfl) rfl 5 (by decide) q254 (fun _ h => h) rfl dX4_become_60 ?_
  refine lv_iload_n hx hb dX4_become_63 rfl (lv_at hl 0 rfl) ?_
  refine fg_ald (g := 0) (i := 5) (t0 := 1) (ty := .array .int) (v := .ref (G.ad 0 7)) hx hb hX hC (cin rfl) rfl rfl rfl (vin_b rfl) rfl dX4_become_64 ?_
  refine lv_aload_n hx hb dX4_become_65 rfl (lv_at hl 1 rfl) ?_
  refine fg_get (C := RX4) (T := TX4) (N := 9) (ci := 0) (g := 1) (i := 0) (v := .ref (G.ad 1 5)) hx hb hown hts hX hC in_X4 rfl (cin rfl) rfl 5 (by decide) q254 (fun _ h => h) rfl dX4_become_66 ?_
  refine lv_iload_n hx hb dX4_become_69 rfl (lv_at hl 0 rfl) ?_
  refine fg_ald (g := 1) (i := 5) (t0 := 1) (ty := .array .int) (v := .ref (G.ad 1 7)) hx hb hX hC (cin rfl) rfl rfl rfl (vin_b rfl) rfl dX4_become_70 ?_
  refine fc_S (As := [.ref (G.ad 0 7), .ref (G.ad 1 7)]) (rest := []) hx hb hml hown hts hX hC (m_X4_copy (g1 := 0) (i1 := 7) (g2 := 1) (i2 := 7) (t0 := 0) (ctn := cct G (pg d (bk 7 kp d) as un to sc fd tp sh) sp) (cin rfl) rfl (cin rfl) rfl rfl (by decide) (cb_6 (w := kp) (o := d) (by decide) pg1 rfl rfl)) (lw_S q704 q705 q115 q706) hdS_X4_copy ⟨rfl, rfl⟩ ⟨Nat.le_of_ble_eq_true rfl, Nat.le_of_ble_eq_true rfl⟩ hl.1 rfl (Nat.le_of_ble_eq_true rfl) ⟨Nat.zero_le _, Nat.zero_le _⟩ dX4_become_71 (fun _ H locs hC => ?_)
  refine lv_iinc (v := 2) (lv' := [(2, .int 2), (0, .ref (G.ad 1 0)), (1, .ref (G.ad 0 0))]) hx hb dX4_become_74 hl (k := 0) rfl rfl (by decide) rfl (fun ls hl => ?_)
  refine lv_goto (tgt := 54) hx hb dX4_become_77 (by decide) ?_
  refine lv_iload_n hx hb dX4_become_54 rfl (lv_at hl 0 rfl) ?_
  refine lv_iconst (v := 4) hx hb dX4_become_55 rfl ?_
  refine fj_ge (tgt := 80) hx hb dX4_become_56 (by decide) (fun z_3 => absurd (by decide) z_3) (fun _ => ?_)
  refine lv_aload_n hx hb dX4_become_59 rfl (lv_at hl 2 rfl) ?_
  refine fg_get (C := RX4) (T := TX4) (N := 9) (ci := 0) (g := 0) (i := 0) (v := .ref (G.ad 0 5)) hx hb hown hts hX hC in_X4 rfl (cin rfl) rfl 5 (by decide) q254 (fun _ h => h) rfl dX4_become_60 ?_
  refine lv_iload_n hx hb dX4_become_63 rfl (lv_at hl 0 rfl) ?_
  refine fg_ald (g := 0) (i := 5) (t0 := 1) (ty := .array .int) (v := .ref (G.ad 0 8)) hx hb hX hC (cin rfl) rfl rfl rfl (vin_b rfl) rfl dX4_become_64 ?_
  refine lv_aload_n hx hb dX4_become_65 rfl (lv_at hl 1 rfl) ?_
  refine fg_get (C := RX4) (T := TX4) (N := 9) (ci := 0) (g := 1) (i := 0) (v := .ref (G.ad 1 5)) hx hb hown hts hX hC in_X4 rfl (cin rfl) rfl 5 (by decide) q254 (fun _ h => h) rfl dX4_become_66 ?_
  refine lv_iload_n hx hb dX4_become_69 rfl (lv_at hl 0 rfl) ?_
  refine fg_ald (g := 1) (i := 5) (t0 := 1) (ty := .array .int) (v := .ref (G.ad 1 8)) hx hb hX hC (cin rfl) rfl rfl rfl (vin_b rfl) rfl dX4_become_70 ?_
  refine fc_S (As := [.ref (G.ad 0 8), .ref (G.ad 1 8)]) (rest := []) hx hb hml hown hts hX hC (m_X4_copy (g1 := 0) (i1 := 8) (g2 := 1) (i2 := 8) (t0 := 0) (ctn := cct G (pg d (bk 8 kp d) as un to sc fd tp sh) sp) (cin rfl) rfl (cin rfl) rfl rfl (by decide) (cb_7 (w := kp) (o := d) (by decide) pg1 rfl rfl)) (lw_S q704 q705 q115 q706) hdS_X4_copy ⟨rfl, rfl⟩ ⟨Nat.le_of_ble_eq_true rfl, Nat.le_of_ble_eq_true rfl⟩ hl.1 rfl (Nat.le_of_ble_eq_true rfl) ⟨Nat.zero_le _, Nat.zero_le _⟩ dX4_become_71 (fun _ H locs hC => ?_)
  refine lv_iinc (v := 3) (lv' := [(2, .int 3), (0, .ref (G.ad 1 0)), (1, .ref (G.ad 0 0))]) hx hb dX4_become_74 hl (k := 0) rfl rfl (by decide) rfl (fun ls hl => ?_)
  refine lv_goto (tgt := 54) hx hb dX4_become_77 (by decide) ?_
  refine lv_iload_n hx hb dX4_become_54 rfl (lv_at hl 0 rfl) ?_
  refine lv_iconst (v := 4) hx hb dX4_become_55 rfl ?_
  refine fj_ge (tgt := 80) hx hb dX4_become_56 (by decide) (fun z_4 => absurd (by decide) z_4) (fun _ => ?_)
  refine lv_aload_n hx hb dX4_become_59 rfl (lv_at hl 2 rfl) ?_
  refine fg_get (C := RX4) (T := TX4) (N := 9) (ci := 0) (g := 0) (i := 0) (v := .ref (G.ad 0 5)) hx hb hown hts hX hC in_X4 rfl (cin rfl) rfl 5 (by decide) q254 (fun _ h => h) rfl dX4_become_60 ?_
  refine lv_iload_n hx hb dX4_become_63 rfl (lv_at hl 0 rfl) ?_
  refine fg_ald (g := 0) (i := 5) (t0 := 1) (ty := .array .int) (v := .ref (G.ad 0 9)) hx hb hX hC (cin rfl) rfl rfl rfl (vin_b rfl) rfl dX4_become_64 ?_
  refine lv_aload_n hx hb dX4_become_65 rfl (lv_at hl 1 rfl) ?_
  refine fg_get (C := RX4) (T := TX4) (N := 9) (ci := 0) (g := 1) (i := 0) (v := .ref (G.ad 1 5)) hx hb hown hts hX hC in_X4 rfl (cin rfl) rfl 5 (by decide) q254 (fun _ h => h) rfl dX4_become_66 ?_
  refine lv_iload_n hx hb dX4_become_69 rfl (lv_at hl 0 rfl) ?_
  refine fg_ald (g := 1) (i := 5) (t0 := 1) (ty := .array .int) (v := .ref (G.ad 1 9)) hx hb hX hC (cin rfl) rfl rfl rfl (vin_b rfl) rfl dX4_become_70 ?_
  refine fc_S (As := [.ref (G.ad 0 9), .ref (G.ad 1 9)]) (rest := []) hx hb hml hown hts hX hC (m_X4_copy (g1 := 0) (i1 := 9) (g2 := 1) (i2 := 9) (t0 := 0) (ctn := cct G (pg d (bk 9 kp d) as un to sc fd tp sh) sp) (cin rfl) rfl (cin rfl) rfl rfl (by decide) (cb_8 (w := kp) (o := d) (by decide) pg1 rfl rfl)) (lw_S q704 q705 q115 q706) hdS_X4_copy ⟨rfl, rfl⟩ ⟨Nat.le_of_ble_eq_true rfl, Nat.le_of_ble_eq_true rfl⟩ hl.1 rfl (Nat.le_of_ble_eq_true rfl) ⟨Nat.zero_le _, Nat.zero_le _⟩ dX4_become_71 (fun _ H locs hC => ?_)
  refine lv_iinc (v := 4) (lv' := [(2, .int 4), (0, .ref (G.ad 1 0)), (1, .ref (G.ad 0 0))]) hx hb dX4_become_74 hl (k := 0) rfl rfl (by decide) rfl (fun ls hl => ?_)
  refine lv_goto (tgt := 54) hx hb dX4_become_77 (by decide) ?_
  refine lv_iload_n hx hb dX4_become_54 rfl (lv_at hl 0 rfl) ?_
  refine lv_iconst (v := 4) hx hb dX4_become_55 rfl ?_
  refine fj_ge (tgt := 80) hx hb dX4_become_56 (by decide) (fun _ => ?_) (fun z_5 => absurd z_5 (by decide))
  refine lv_aload_n hx hb dX4_become_80 rfl (lv_at hl 1 rfl) ?_
  refine lv_aload_n hx hb dX4_become_81 rfl (lv_at hl 2 rfl) ?_
  refine fg_get (C := RX4) (T := TX4) (N := 9) (ci := 0) (g := 0) (i := 0) (v := .int (d 0)) hx hb hown hts hX hC in_X4 rfl (cin rfl) rfl 6 (by decide) q258 (fun _ h => h) rfl dX4_become_82 ?_
  refine fg_put (C := RX4) (T := TX4) (N := 9) (ci := 0) (g := 1) (i := 0) hx hb hown hts hX hC in_X4 tyX4 tyX4_ok nmX4 rfl (cin rfl) rfl 6 (by decide) q258 (fun _ h => h) rfl rfl rfl (Nat.le_of_ble_eq_true rfl) (cct G (pg d (bk 10 kp d) as un to sc fd tp sh) sp) (cb_9 (w := kp) (o := d) (by decide) pg1 rfl rfl) dX4_become_85 (fun H locs hC => ?_)
  refine lv_aload_n hx hb dX4_become_88 rfl (lv_at hl 1 rfl) ?_
  refine lv_aload_n hx hb dX4_become_89 rfl (lv_at hl 2 rfl) ?_
  refine fg_get (C := RX4) (T := TX4) (N := 9) (ci := 0) (g := 0) (i := 0) (v := .int (d 2)) hx hb hown hts hX hC in_X4 rfl (cin rfl) rfl 7 (by decide) q260 (fun _ h => h) rfl dX4_become_90 ?_
  refine fg_put (C := RX4) (T := TX4) (N := 9) (ci := 0) (g := 1) (i := 0) hx hb hown hts hX hC in_X4 tyX4 tyX4_ok nmX4 rfl (cin rfl) rfl 7 (by decide) q260 (fun _ h => h) rfl rfl rfl (Nat.le_of_ble_eq_true rfl) (cct G (pg d (bk 11 kp d) as un to sc fd tp sh) sp) (cb_10 (w := kp) (o := d) (by decide) pg1 rfl rfl) dX4_become_93 (fun H locs hC => ?_)
  refine lv_aload_n hx hb dX4_become_96 rfl (lv_at hl 2 rfl) ?_
  refine fg_get (C := RX4) (T := TX4) (N := 9) (ci := 0) (g := 0) (i := 0) (v := .ref (G.ad 0 10)) hx hb hown hts hX hC in_X4 rfl (cin rfl) rfl 8 (by decide) q262 (fun _ h => h) rfl dX4_become_97 ?_
  refine lv_aload_n hx hb dX4_become_100 rfl (lv_at hl 1 rfl) ?_
  refine fg_get (C := RX4) (T := TX4) (N := 9) (ci := 0) (g := 1) (i := 0) (v := .ref (G.ad 1 10)) hx hb hown hts hX hC in_X4 rfl (cin rfl) rfl 8 (by decide) q262 (fun _ h => h) rfl dX4_become_101 ?_
  refine fc_S (As := [.ref (G.ad 0 10), .ref (G.ad 1 10)]) (rest := []) hx hb hml hown hts hX hC (m_X4_copy (g1 := 0) (i1 := 10) (g2 := 1) (i2 := 10) (t0 := 0) (ctn := cct G (pg d (bk 12 kp d) as un to sc fd tp sh) sp) (cin rfl) rfl (cin rfl) rfl rfl (by decide) (cb_11 (w := kp) (o := d) (by decide) pg1 rfl rfl)) (lw_S q704 q705 q115 q706) hdS_X4_copy ⟨rfl, rfl⟩ ⟨Nat.le_of_ble_eq_true rfl, Nat.le_of_ble_eq_true rfl⟩ hl.1 rfl (Nat.le_of_ble_eq_true rfl) ⟨Nat.zero_le _, Nat.zero_le _⟩ dX4_become_104 (fun _ H locs hC => ?_)
  have hC := cc_cong (P' := pg d d as un to sc fd tp sh) (g := 1) (by decide) pg1 bk_all hC
  exact fr_v hx hb hr hlocks hX hC () rfl rfl dX4_become_107
set_option maxRecDepth 100000 in
theorem m_X4_become_01 {l : Launch} {G : Gc} {d kp as un to sc fd tp sh : Row} {sp : Nat → Option Nat}  : Cm l yX4_become (ws_ yX4_become cX4_become 3 none) ({ frames := 2, cells := 0, slots := 0, locals := 81 }) (cF G) [.ref (G.ad 0 0), .ref (G.ad 1 0)] (cct G (pg d kp as un to sc fd tp sh) sp) (fun _ : Unit => none) (fun _ => cct G (pg kp kp as un to sc fd tp sh) sp) := by
  refine Cm.start (by decide) (Nat.le_of_ble_eq_true rfl) ?_
  intro p e s m below meth c hf hX hC ls hl
  obtain ⟨hx, hb, hr, hml, hown, hts, hlocks⟩ := hf
  have hl : lv_has ls 3 [(0, .ref (G.ad 0 0)), (1, .ref (G.ad 1 0))] := hl
  have hown : s.vm.findClass "OwlEars$World" = some m.cls := hown
  refine lv_aload_n hx hb dX4_become_0 rfl (lv_at hl 1 rfl) ?_
  refine fg_get (C := RX4) (T := TX4) (N := 9) (ci := 0) (g := 1) (i := 0) (v := .ref (G.ad 1 1)) hx hb hown hts hX hC in_X4 rfl (cin rfl) rfl 0 (by decide) q238 (fun _ h => h) rfl dX4_become_1 ?_
  refine lv_aload_n hx hb dX4_become_4 rfl (lv_at hl 0 rfl) ?_
  refine fg_get (C := RX4) (T := TX4) (N := 9) (ci := 0) (g := 0) (i := 0) (v := .ref (G.ad 0 1)) hx hb hown hts hX hC in_X4 rfl (cin rfl) rfl 0 (by decide) q238 (fun _ h => h) rfl dX4_become_5 ?_
  refine fc_S (As := [.ref (G.ad 1 1), .ref (G.ad 0 1)]) (rest := []) hx hb hml hown hts hX hC (m_X4_copy (g1 := 1) (i1 := 1) (g2 := 0) (i2 := 1) (t0 := 0) (ctn := cct G (pg (bk 1 d kp) kp as un to sc fd tp sh) sp) (cin rfl) rfl (cin rfl) rfl rfl (by decide) (cb_0 (w := d) (o := kp) (by decide) pg0 (bk_0 _ _) rfl)) (lw_S q704 q705 q115 q706) hdS_X4_copy ⟨rfl, rfl⟩ ⟨Nat.le_of_ble_eq_true rfl, Nat.le_of_ble_eq_true rfl⟩ hl.1 rfl (Nat.le_of_ble_eq_true rfl) ⟨Nat.zero_le _, Nat.zero_le _⟩ dX4_become_8 (fun _ H locs hC => ?_)
  refine lv_aload_n hx hb dX4_become_11 rfl (lv_at hl 1 rfl) ?_
  refine fg_get (C := RX4) (T := TX4) (N := 9) (ci := 0) (g := 1) (i := 0) (v := .ref (G.ad 1 2)) hx hb hown hts hX hC in_X4 rfl (cin rfl) rfl 1 (by decide) q241 (fun _ h => h) rfl dX4_become_12 ?_
  refine lv_aload_n hx hb dX4_become_15 rfl (lv_at hl 0 rfl) ?_
  refine fg_get (C := RX4) (T := TX4) (N := 9) (ci := 0) (g := 0) (i := 0) (v := .ref (G.ad 0 2)) hx hb hown hts hX hC in_X4 rfl (cin rfl) rfl 1 (by decide) q241 (fun _ h => h) rfl dX4_become_16 ?_
  refine fc_S (As := [.ref (G.ad 1 2), .ref (G.ad 0 2)]) (rest := []) hx hb hml hown hts hX hC (m_X4_copy (g1 := 1) (i1 := 2) (g2 := 0) (i2 := 2) (t0 := 0) (ctn := cct G (pg (bk 2 d kp) kp as un to sc fd tp sh) sp) (cin rfl) rfl (cin rfl) rfl rfl (by decide) (cb_1 (w := d) (o := kp) (by decide) pg0 rfl rfl)) (lw_S q704 q705 q115 q706) hdS_X4_copy ⟨rfl, rfl⟩ ⟨Nat.le_of_ble_eq_true rfl, Nat.le_of_ble_eq_true rfl⟩ hl.1 rfl (Nat.le_of_ble_eq_true rfl) ⟨Nat.zero_le _, Nat.zero_le _⟩ dX4_become_19 (fun _ H locs hC => ?_)
  refine lv_aload_n hx hb dX4_become_22 rfl (lv_at hl 1 rfl) ?_
  refine fg_get (C := RX4) (T := TX4) (N := 9) (ci := 0) (g := 1) (i := 0) (v := .ref (G.ad 1 3)) hx hb hown hts hX hC in_X4 rfl (cin rfl) rfl 2 (by decide) q244 (fun _ h => h) rfl dX4_become_23 ?_
  refine lv_aload_n hx hb dX4_become_26 rfl (lv_at hl 0 rfl) ?_
  refine fg_get (C := RX4) (T := TX4) (N := 9) (ci := 0) (g := 0) (i := 0) (v := .ref (G.ad 0 3)) hx hb hown hts hX hC in_X4 rfl (cin rfl) rfl 2 (by decide) q244 (fun _ h => h) rfl dX4_become_27 ?_
  refine fc_S (As := [.ref (G.ad 1 3), .ref (G.ad 0 3)]) (rest := []) hx hb hml hown hts hX hC (m_X4_copy (g1 := 1) (i1 := 3) (g2 := 0) (i2 := 3) (t0 := 0) (ctn := cct G (pg (bk 3 d kp) kp as un to sc fd tp sh) sp) (cin rfl) rfl (cin rfl) rfl rfl (by decide) (cb_2 (w := d) (o := kp) (by decide) pg0 rfl rfl)) (lw_S q704 q705 q115 q706) hdS_X4_copy ⟨rfl, rfl⟩ ⟨Nat.le_of_ble_eq_true rfl, Nat.le_of_ble_eq_true rfl⟩ hl.1 rfl (Nat.le_of_ble_eq_true rfl) ⟨Nat.zero_le _, Nat.zero_le _⟩ dX4_become_30 (fun _ H locs hC => ?_)
  refine lv_aload_n hx hb dX4_become_33 rfl (lv_at hl 1 rfl) ?_
  refine fg_get (C := RX4) (T := TX4) (N := 9) (ci := 0) (g := 1) (i := 0) (v := .ref (G.ad 1 4)) hx hb hown hts hX hC in_X4 rfl (cin rfl) rfl 3 (by decide) q247 (fun _ h => h) rfl dX4_become_34 ?_
  refine lv_aload_n hx hb dX4_become_37 rfl (lv_at hl 0 rfl) ?_
  refine fg_get (C := RX4) (T := TX4) (N := 9) (ci := 0) (g := 0) (i := 0) (v := .ref (G.ad 0 4)) hx hb hown hts hX hC in_X4 rfl (cin rfl) rfl 3 (by decide) q247 (fun _ h => h) rfl dX4_become_38 ?_
  refine fc_S (As := [.ref (G.ad 1 4), .ref (G.ad 0 4)]) (rest := []) hx hb hml hown hts hX hC (m_X4_copy (g1 := 1) (i1 := 4) (g2 := 0) (i2 := 4) (t0 := 0) (ctn := cct G (pg (bk 4 d kp) kp as un to sc fd tp sh) sp) (cin rfl) rfl (cin rfl) rfl rfl (by decide) (cb_3 (w := d) (o := kp) (by decide) pg0 rfl rfl)) (lw_S q704 q705 q115 q706) hdS_X4_copy ⟨rfl, rfl⟩ ⟨Nat.le_of_ble_eq_true rfl, Nat.le_of_ble_eq_true rfl⟩ hl.1 rfl (Nat.le_of_ble_eq_true rfl) ⟨Nat.zero_le _, Nat.zero_le _⟩ dX4_become_41 (fun _ H locs hC => ?_)
  refine lv_aload_n hx hb dX4_become_44 rfl (lv_at hl 0 rfl) ?_
  refine lv_aload_n hx hb dX4_become_45 rfl (lv_at hl 1 rfl) ?_
  refine fg_get (C := RX4) (T := TX4) (N := 9) (ci := 0) (g := 1) (i := 0) (v := .int (kp 1)) hx hb hown hts hX hC in_X4 rfl (cin rfl) rfl 4 (by decide) q251 (fun _ h => h) rfl dX4_become_46 ?_
  refine fg_put (C := RX4) (T := TX4) (N := 9) (ci := 0) (g := 0) (i := 0) hx hb hown hts hX hC in_X4 tyX4 tyX4_ok nmX4 rfl (cin rfl) rfl 4 (by decide) q251 (fun _ h => h) rfl rfl rfl (Nat.le_of_ble_eq_true rfl) (cct G (pg (bk 5 d kp) kp as un to sc fd tp sh) sp) (cb_4 (w := d) (o := kp) (by decide) pg0 rfl rfl) dX4_become_49 (fun H locs hC => ?_)
  refine lv_iconst (v := 0) hx hb dX4_become_52 rfl ?_
  refine lv_istore_n (lv' := [(2, .int 0), (0, .ref (G.ad 0 0)), (1, .ref (G.ad 1 0))]) hx hb dX4_become_53 rfl hl (by decide) rfl (fun ls hl => ?_)
  refine lv_iload_n hx hb dX4_become_54 rfl (lv_at hl 0 rfl) ?_
  refine lv_iconst (v := 4) hx hb dX4_become_55 rfl ?_
  refine fj_ge (tgt := 80) hx hb dX4_become_56 (by decide) (fun z_1 => absurd (by decide) z_1) (fun _ => ?_)
  refine lv_aload_n hx hb dX4_become_59 rfl (lv_at hl 2 rfl) ?_
  refine fg_get (C := RX4) (T := TX4) (N := 9) (ci := 0) (g := 1) (i := 0) (v := .ref (G.ad 1 5)) hx hb hown hts hX hC in_X4 rfl (cin rfl) rfl 5 (by decide) q254 (fun _ h => h) rfl dX4_become_60 ?_
  refine lv_iload_n hx hb dX4_become_63 rfl (lv_at hl 0 rfl) ?_
  refine fg_ald (g := 1) (i := 5) (t0 := 1) (ty := .array .int) (v := .ref (G.ad 1 6)) hx hb hX hC (cin rfl) rfl rfl rfl (vin_b rfl) rfl dX4_become_64 ?_
  refine lv_aload_n hx hb dX4_become_65 rfl (lv_at hl 1 rfl) ?_
  refine fg_get (C := RX4) (T := TX4) (N := 9) (ci := 0) (g := 0) (i := 0) (v := .ref (G.ad 0 5)) hx hb hown hts hX hC in_X4 rfl (cin rfl) rfl 5 (by decide) q254 (fun _ h => h) rfl dX4_become_66 ?_
  refine lv_iload_n hx hb dX4_become_69 rfl (lv_at hl 0 rfl) ?_
  refine fg_ald (g := 0) (i := 5) (t0 := 1) (ty := .array .int) (v := .ref (G.ad 0 6)) hx hb hX hC (cin rfl) rfl rfl rfl (vin_b rfl) rfl dX4_become_70 ?_
  refine fc_S (As := [.ref (G.ad 1 6), .ref (G.ad 0 6)]) (rest := []) hx hb hml hown hts hX hC (m_X4_copy (g1 := 1) (i1 := 6) (g2 := 0) (i2 := 6) (t0 := 0) (ctn := cct G (pg (bk 6 d kp) kp as un to sc fd tp sh) sp) (cin rfl) rfl (cin rfl) rfl rfl (by decide) (cb_5 (w := d) (o := kp) (by decide) pg0 rfl rfl)) (lw_S q704 q705 q115 q706) hdS_X4_copy ⟨rfl, rfl⟩ ⟨Nat.le_of_ble_eq_true rfl, Nat.le_of_ble_eq_true rfl⟩ hl.1 rfl (Nat.le_of_ble_eq_true rfl) ⟨Nat.zero_le _, Nat.zero_le _⟩ dX4_become_71 (fun _ H locs hC => ?_)
  refine lv_iinc (v := 1) (lv' := [(2, .int 1), (0, .ref (G.ad 0 0)), (1, .ref (G.ad 1 0))]) hx hb dX4_become_74 hl (k := 0) rfl rfl (by decide) rfl (fun ls hl => ?_)
  refine lv_goto (tgt := 54) hx hb dX4_become_77 (by decide) ?_
  refine lv_iload_n hx hb dX4_become_54 rfl (lv_at hl 0 rfl) ?_
  refine lv_iconst (v := 4) hx hb dX4_become_55 rfl ?_
  refine fj_ge (tgt := 80) hx hb dX4_become_56 (by decide) (fun z_2 => absurd (by decide) z_2) (fun _ => ?_)
  refine lv_aload_n hx hb dX4_become_59 rfl (lv_at hl 2 rfl) ?_
  refine fg_get (C := RX4) (T := TX4) (N := 9) (ci := 0) (g := 1) (i := 0) (v := .ref (G.ad 1 5)) hx hb hown hts hX hC in_X4 rfl (cin rfl) rfl 5 (by decide) q254 (fun _ h => h) rfl dX4_become_60 ?_
  refine lv_iload_n hx hb dX4_become_63 rfl (lv_at hl 0 rfl) ?_
  refine fg_ald (g := 1) (i := 5) (t0 := 1) (ty := .array .int) (v := .ref (G.ad 1 7)) hx hb hX hC (cin rfl) rfl rfl rfl (vin_b rfl) rfl dX4_become_64 ?_
  refine lv_aload_n hx hb dX4_become_65 rfl (lv_at hl 1 rfl) ?_
  refine fg_get (C := RX4) (T := TX4) (N := 9) (ci := 0) (g := 0) (i := 0) (v := .ref (G.ad 0 5)) hx hb hown hts hX hC in_X4 rfl (cin rfl) rfl 5 (by decide) q254 (fun _ h => h) rfl dX4_become_66 ?_
  refine lv_iload_n hx hb dX4_become_69 rfl (lv_at hl 0 rfl) ?_
  refine fg_ald (g := 0) (i := 5) (t0 := 1) (ty := .array .int) (v := .ref (G.ad 0 7)) hx hb hX hC (cin rfl) rfl rfl rfl (vin_b rfl) rfl dX4_become_70 ?_
  refine fc_S (As := [.ref (G.ad 1 7), .ref (G.ad 0 7)]) (rest := []) hx hb hml hown hts hX hC (m_X4_copy (g1 := 1) (i1 := 7) (g2 := 0) (i2 := 7) (t0 := 0) (ctn := cct G (pg (bk 7 d kp) kp as un to sc fd tp sh) sp) (cin rfl) rfl (cin rfl) rfl rfl (by decide) (cb_6 (w := d) (o := kp) (by decide) pg0 rfl rfl)) (lw_S q704 q705 q115 q706) hdS_X4_copy ⟨rfl, rfl⟩ ⟨Nat.le_of_ble_eq_true rfl, Nat.le_of_ble_eq_true rfl⟩ hl.1 rfl (Nat.le_of_ble_eq_true rfl) ⟨Nat.zero_le _, Nat.zero_le _⟩ dX4_become_71 (fun _ H locs hC => ?_)
  refine lv_iinc (v := 2) (lv' := [(2, .int 2), (0, .ref (G.ad 0 0)), (1, .ref (G.ad 1 0))]) hx hb dX4_become_74 hl (k := 0) rfl rfl (by decide) rfl (fun ls hl => ?_)
  refine lv_goto (tgt := 54) hx hb dX4_become_77 (by decide) ?_
  refine lv_iload_n hx hb dX4_become_54 rfl (lv_at hl 0 rfl) ?_
  refine lv_iconst (v := 4) hx hb dX4_become_55 rfl ?_
  refine fj_ge (tgt := 80) hx hb dX4_become_56 (by decide) (fun z_3 => absurd (by decide) z_3) (fun _ => ?_)
  refine lv_aload_n hx hb dX4_become_59 rfl (lv_at hl 2 rfl) ?_
  refine fg_get (C := RX4) (T := TX4) (N := 9) (ci := 0) (g := 1) (i := 0) (v := .ref (G.ad 1 5)) hx hb hown hts hX hC in_X4 rfl (cin rfl) rfl 5 (by decide) q254 (fun _ h => h) rfl dX4_become_60 ?_
  refine lv_iload_n hx hb dX4_become_63 rfl (lv_at hl 0 rfl) ?_
  refine fg_ald (g := 1) (i := 5) (t0 := 1) (ty := .array .int) (v := .ref (G.ad 1 8)) hx hb hX hC (cin rfl) rfl rfl rfl (vin_b rfl) rfl dX4_become_64 ?_
  refine lv_aload_n hx hb dX4_become_65 rfl (lv_at hl 1 rfl) ?_
  refine fg_get (C := RX4) (T := TX4) (N := 9) (ci := 0) (g := 0) (i := 0) (v := .ref (G.ad 0 5)) hx hb hown hts hX hC in_X4 rfl (cin rfl) rfl 5 (by decide) q254 (fun _ h => h) rfl dX4_become_66 ?_
  refine lv_iload_n hx hb dX4_become_69 rfl (lv_at hl 0 rfl) ?_
  refine fg_ald (g := 0) (i := 5) (t0 := 1) (ty := .array .int) (v := .ref (G.ad 0 8)) hx hb hX hC (cin rfl) rfl rfl rfl (vin_b rfl) rfl dX4_become_70 ?_
  refine fc_S (As := [.ref (G.ad 1 8), .ref (G.ad 0 8)]) (rest := []) hx hb hml hown hts hX hC (m_X4_copy (g1 := 1) (i1 := 8) (g2 := 0) (i2 := 8) (t0 := 0) (ctn := cct G (pg (bk 8 d kp) kp as un to sc fd tp sh) sp) (cin rfl) rfl (cin rfl) rfl rfl (by decide) (cb_7 (w := d) (o := kp) (by decide) pg0 rfl rfl)) (lw_S q704 q705 q115 q706) hdS_X4_copy ⟨rfl, rfl⟩ ⟨Nat.le_of_ble_eq_true rfl, Nat.le_of_ble_eq_true rfl⟩ hl.1 rfl (Nat.le_of_ble_eq_true rfl) ⟨Nat.zero_le _, Nat.zero_le _⟩ dX4_become_71 (fun _ H locs hC => ?_)
  refine lv_iinc (v := 3) (lv' := [(2, .int 3), (0, .ref (G.ad 0 0)), (1, .ref (G.ad 1 0))]) hx hb dX4_become_74 hl (k := 0) rfl rfl (by decide) rfl (fun ls hl => ?_)
  refine lv_goto (tgt := 54) hx hb dX4_become_77 (by decide) ?_
  refine lv_iload_n hx hb dX4_become_54 rfl (lv_at hl 0 rfl) ?_
  refine lv_iconst (v := 4) hx hb dX4_become_55 rfl ?_
  refine fj_ge (tgt := 80) hx hb dX4_become_56 (by decide) (fun z_4 => absurd (by decide) z_4) (fun _ => ?_)
  refine lv_aload_n hx hb dX4_become_59 rfl (lv_at hl 2 rfl) ?_
  refine fg_get (C := RX4) (T := TX4) (N := 9) (ci := 0) (g := 1) (i := 0) (v := .ref (G.ad 1 5)) hx hb hown hts hX hC in_X4 rfl (cin rfl) rfl 5 (by decide) q254 (fun _ h => h) rfl dX4_become_60 ?_
  refine lv_iload_n hx hb dX4_become_63 rfl (lv_at hl 0 rfl) ?_
  refine fg_ald (g := 1) (i := 5) (t0 := 1) (ty := .array .int) (v := .ref (G.ad 1 9)) hx hb hX hC (cin rfl) rfl rfl rfl (vin_b rfl) rfl dX4_become_64 ?_
  refine lv_aload_n hx hb dX4_become_65 rfl (lv_at hl 1 rfl) ?_
  refine fg_get (C := RX4) (T := TX4) (N := 9) (ci := 0) (g := 0) (i := 0) (v := .ref (G.ad 0 5)) hx hb hown hts hX hC in_X4 rfl (cin rfl) rfl 5 (by decide) q254 (fun _ h => h) rfl dX4_become_66 ?_
  refine lv_iload_n hx hb dX4_become_69 rfl (lv_at hl 0 rfl) ?_
  refine fg_ald (g := 0) (i := 5) (t0 := 1) (ty := .array .int) (v := .ref (G.ad 0 9)) hx hb hX hC (cin rfl) rfl rfl rfl (vin_b rfl) rfl dX4_become_70 ?_
  refine fc_S (As := [.ref (G.ad 1 9), .ref (G.ad 0 9)]) (rest := []) hx hb hml hown hts hX hC (m_X4_copy (g1 := 1) (i1 := 9) (g2 := 0) (i2 := 9) (t0 := 0) (ctn := cct G (pg (bk 9 d kp) kp as un to sc fd tp sh) sp) (cin rfl) rfl (cin rfl) rfl rfl (by decide) (cb_8 (w := d) (o := kp) (by decide) pg0 rfl rfl)) (lw_S q704 q705 q115 q706) hdS_X4_copy ⟨rfl, rfl⟩ ⟨Nat.le_of_ble_eq_true rfl, Nat.le_of_ble_eq_true rfl⟩ hl.1 rfl (Nat.le_of_ble_eq_true rfl) ⟨Nat.zero_le _, Nat.zero_le _⟩ dX4_become_71 (fun _ H locs hC => ?_)
  refine lv_iinc (v := 4) (lv' := [(2, .int 4), (0, .ref (G.ad 0 0)), (1, .ref (G.ad 1 0))]) hx hb dX4_become_74 hl (k := 0) rfl rfl (by decide) rfl (fun ls hl => ?_)
  refine lv_goto (tgt := 54) hx hb dX4_become_77 (by decide) ?_
  refine lv_iload_n hx hb dX4_become_54 rfl (lv_at hl 0 rfl) ?_
  refine lv_iconst (v := 4) hx hb dX4_become_55 rfl ?_
  refine fj_ge (tgt := 80) hx hb dX4_become_56 (by decide) (fun _ => ?_) (fun z_5 => absurd z_5 (by decide))
  refine lv_aload_n hx hb dX4_become_80 rfl (lv_at hl 1 rfl) ?_
  refine lv_aload_n hx hb dX4_become_81 rfl (lv_at hl 2 rfl) ?_
  refine fg_get (C := RX4) (T := TX4) (N := 9) (ci := 0) (g := 1) (i := 0) (v := .int (kp 0)) hx hb hown hts hX hC in_X4 rfl (cin rfl) rfl 6 (by decide) q258 (fun _ h => h) rfl dX4_become_82 ?_
  refine fg_put (C := RX4) (T := TX4) (N := 9) (ci := 0) (g := 0) (i := 0) hx hb hown hts hX hC in_X4 tyX4 tyX4_ok nmX4 rfl (cin rfl) rfl 6 (by decide) q258 (fun _ h => h) rfl rfl rfl (Nat.le_of_ble_eq_true rfl) (cct G (pg (bk 10 d kp) kp as un to sc fd tp sh) sp) (cb_9 (w := d) (o := kp) (by decide) pg0 rfl rfl) dX4_become_85 (fun H locs hC => ?_)
  refine lv_aload_n hx hb dX4_become_88 rfl (lv_at hl 1 rfl) ?_
  refine lv_aload_n hx hb dX4_become_89 rfl (lv_at hl 2 rfl) ?_
  refine fg_get (C := RX4) (T := TX4) (N := 9) (ci := 0) (g := 1) (i := 0) (v := .int (kp 2)) hx hb hown hts hX hC in_X4 rfl (cin rfl) rfl 7 (by decide) q260 (fun _ h => h) rfl dX4_become_90 ?_
  refine fg_put (C := RX4) (T := TX4) (N := 9) (ci := 0) (g := 0) (i := 0) hx hb hown hts hX hC in_X4 tyX4 tyX4_ok nmX4 rfl (cin rfl) rfl 7 (by decide) q260 (fun _ h => h) rfl rfl rfl (Nat.le_of_ble_eq_true rfl) (cct G (pg (bk 11 d kp) kp as un to sc fd tp sh) sp) (cb_10 (w := d) (o := kp) (by decide) pg0 rfl rfl) dX4_become_93 (fun H locs hC => ?_)
  refine lv_aload_n hx hb dX4_become_96 rfl (lv_at hl 2 rfl) ?_
  refine fg_get (C := RX4) (T := TX4) (N := 9) (ci := 0) (g := 1) (i := 0) (v := .ref (G.ad 1 10)) hx hb hown hts hX hC in_X4 rfl (cin rfl) rfl 8 (by decide) q262 (fun _ h => h) rfl dX4_become_97 ?_
  refine lv_aload_n hx hb dX4_become_100 rfl (lv_at hl 1 rfl) ?_
  refine fg_get (C := RX4) (T := TX4) (N := 9) (ci := 0) (g := 0) (i := 0) (v := .ref (G.ad 0 10)) hx hb hown hts hX hC in_X4 rfl (cin rfl) rfl 8 (by decide) q262 (fun _ h => h) rfl dX4_become_101 ?_
  refine fc_S (As := [.ref (G.ad 1 10), .ref (G.ad 0 10)]) (rest := []) hx hb hml hown hts hX hC (m_X4_copy (g1 := 1) (i1 := 10) (g2 := 0) (i2 := 10) (t0 := 0) (ctn := cct G (pg (bk 12 d kp) kp as un to sc fd tp sh) sp) (cin rfl) rfl (cin rfl) rfl rfl (by decide) (cb_11 (w := d) (o := kp) (by decide) pg0 rfl rfl)) (lw_S q704 q705 q115 q706) hdS_X4_copy ⟨rfl, rfl⟩ ⟨Nat.le_of_ble_eq_true rfl, Nat.le_of_ble_eq_true rfl⟩ hl.1 rfl (Nat.le_of_ble_eq_true rfl) ⟨Nat.zero_le _, Nat.zero_le _⟩ dX4_become_104 (fun _ H locs hC => ?_)
  have hC := cc_cong (P' := pg kp kp as un to sc fd tp sh) (g := 0) (by decide) pg0 bk_all hC
  exact fr_v hx hb hr hlocks hX hC () rfl rfl dX4_become_107
set_option maxRecDepth 100000 in
theorem m_X4_become_40 {l : Launch} {G : Gc} {d kp as un to sc fd tp sh : Row} {sp : Nat → Option Nat}  : Cm l yX4_become (ws_ yX4_become cX4_become 3 none) ({ frames := 2, cells := 0, slots := 0, locals := 81 }) (cF G) [.ref (G.ad 4 0), .ref (G.ad 0 0)] (cct G (pg d kp as un to sc fd tp sh) sp) (fun _ : Unit => none) (fun _ => cct G (pg d kp as un d sc fd tp sh) sp) := by
  refine Cm.start (by decide) (Nat.le_of_ble_eq_true rfl) ?_
  intro p e s m below meth c hf hX hC ls hl
  obtain ⟨hx, hb, hr, hml, hown, hts, hlocks⟩ := hf
  have hl : lv_has ls 3 [(0, .ref (G.ad 4 0)), (1, .ref (G.ad 0 0))] := hl
  have hown : s.vm.findClass "OwlEars$World" = some m.cls := hown
  refine lv_aload_n hx hb dX4_become_0 rfl (lv_at hl 1 rfl) ?_
  refine fg_get (C := RX4) (T := TX4) (N := 9) (ci := 0) (g := 0) (i := 0) (v := .ref (G.ad 0 1)) hx hb hown hts hX hC in_X4 rfl (cin rfl) rfl 0 (by decide) q238 (fun _ h => h) rfl dX4_become_1 ?_
  refine lv_aload_n hx hb dX4_become_4 rfl (lv_at hl 0 rfl) ?_
  refine fg_get (C := RX4) (T := TX4) (N := 9) (ci := 0) (g := 4) (i := 0) (v := .ref (G.ad 4 1)) hx hb hown hts hX hC in_X4 rfl (cin rfl) rfl 0 (by decide) q238 (fun _ h => h) rfl dX4_become_5 ?_
  refine fc_S (As := [.ref (G.ad 0 1), .ref (G.ad 4 1)]) (rest := []) hx hb hml hown hts hX hC (m_X4_copy (g1 := 0) (i1 := 1) (g2 := 4) (i2 := 1) (t0 := 0) (ctn := cct G (pg d kp as un (bk 1 to d) sc fd tp sh) sp) (cin rfl) rfl (cin rfl) rfl rfl (by decide) (cb_0 (w := to) (o := d) (by decide) pg4 (bk_0 _ _) rfl)) (lw_S q704 q705 q115 q706) hdS_X4_copy ⟨rfl, rfl⟩ ⟨Nat.le_of_ble_eq_true rfl, Nat.le_of_ble_eq_true rfl⟩ hl.1 rfl (Nat.le_of_ble_eq_true rfl) ⟨Nat.zero_le _, Nat.zero_le _⟩ dX4_become_8 (fun _ H locs hC => ?_)
  refine lv_aload_n hx hb dX4_become_11 rfl (lv_at hl 1 rfl) ?_
  refine fg_get (C := RX4) (T := TX4) (N := 9) (ci := 0) (g := 0) (i := 0) (v := .ref (G.ad 0 2)) hx hb hown hts hX hC in_X4 rfl (cin rfl) rfl 1 (by decide) q241 (fun _ h => h) rfl dX4_become_12 ?_
  refine lv_aload_n hx hb dX4_become_15 rfl (lv_at hl 0 rfl) ?_
  refine fg_get (C := RX4) (T := TX4) (N := 9) (ci := 0) (g := 4) (i := 0) (v := .ref (G.ad 4 2)) hx hb hown hts hX hC in_X4 rfl (cin rfl) rfl 1 (by decide) q241 (fun _ h => h) rfl dX4_become_16 ?_
  refine fc_S (As := [.ref (G.ad 0 2), .ref (G.ad 4 2)]) (rest := []) hx hb hml hown hts hX hC (m_X4_copy (g1 := 0) (i1 := 2) (g2 := 4) (i2 := 2) (t0 := 0) (ctn := cct G (pg d kp as un (bk 2 to d) sc fd tp sh) sp) (cin rfl) rfl (cin rfl) rfl rfl (by decide) (cb_1 (w := to) (o := d) (by decide) pg4 rfl rfl)) (lw_S q704 q705 q115 q706) hdS_X4_copy ⟨rfl, rfl⟩ ⟨Nat.le_of_ble_eq_true rfl, Nat.le_of_ble_eq_true rfl⟩ hl.1 rfl (Nat.le_of_ble_eq_true rfl) ⟨Nat.zero_le _, Nat.zero_le _⟩ dX4_become_19 (fun _ H locs hC => ?_)
  refine lv_aload_n hx hb dX4_become_22 rfl (lv_at hl 1 rfl) ?_
  refine fg_get (C := RX4) (T := TX4) (N := 9) (ci := 0) (g := 0) (i := 0) (v := .ref (G.ad 0 3)) hx hb hown hts hX hC in_X4 rfl (cin rfl) rfl 2 (by decide) q244 (fun _ h => h) rfl dX4_become_23 ?_
  refine lv_aload_n hx hb dX4_become_26 rfl (lv_at hl 0 rfl) ?_
  refine fg_get (C := RX4) (T := TX4) (N := 9) (ci := 0) (g := 4) (i := 0) (v := .ref (G.ad 4 3)) hx hb hown hts hX hC in_X4 rfl (cin rfl) rfl 2 (by decide) q244 (fun _ h => h) rfl dX4_become_27 ?_
  refine fc_S (As := [.ref (G.ad 0 3), .ref (G.ad 4 3)]) (rest := []) hx hb hml hown hts hX hC (m_X4_copy (g1 := 0) (i1 := 3) (g2 := 4) (i2 := 3) (t0 := 0) (ctn := cct G (pg d kp as un (bk 3 to d) sc fd tp sh) sp) (cin rfl) rfl (cin rfl) rfl rfl (by decide) (cb_2 (w := to) (o := d) (by decide) pg4 rfl rfl)) (lw_S q704 q705 q115 q706) hdS_X4_copy ⟨rfl, rfl⟩ ⟨Nat.le_of_ble_eq_true rfl, Nat.le_of_ble_eq_true rfl⟩ hl.1 rfl (Nat.le_of_ble_eq_true rfl) ⟨Nat.zero_le _, Nat.zero_le _⟩ dX4_become_30 (fun _ H locs hC => ?_)
  refine lv_aload_n hx hb dX4_become_33 rfl (lv_at hl 1 rfl) ?_
  refine fg_get (C := RX4) (T := TX4) (N := 9) (ci := 0) (g := 0) (i := 0) (v := .ref (G.ad 0 4)) hx hb hown hts hX hC in_X4 rfl (cin rfl) rfl 3 (by decide) q247 (fun _ h => h) rfl dX4_become_34 ?_
  refine lv_aload_n hx hb dX4_become_37 rfl (lv_at hl 0 rfl) ?_
  refine fg_get (C := RX4) (T := TX4) (N := 9) (ci := 0) (g := 4) (i := 0) (v := .ref (G.ad 4 4)) hx hb hown hts hX hC in_X4 rfl (cin rfl) rfl 3 (by decide) q247 (fun _ h => h) rfl dX4_become_38 ?_
  refine fc_S (As := [.ref (G.ad 0 4), .ref (G.ad 4 4)]) (rest := []) hx hb hml hown hts hX hC (m_X4_copy (g1 := 0) (i1 := 4) (g2 := 4) (i2 := 4) (t0 := 0) (ctn := cct G (pg d kp as un (bk 4 to d) sc fd tp sh) sp) (cin rfl) rfl (cin rfl) rfl rfl (by decide) (cb_3 (w := to) (o := d) (by decide) pg4 rfl rfl)) (lw_S q704 q705 q115 q706) hdS_X4_copy ⟨rfl, rfl⟩ ⟨Nat.le_of_ble_eq_true rfl, Nat.le_of_ble_eq_true rfl⟩ hl.1 rfl (Nat.le_of_ble_eq_true rfl) ⟨Nat.zero_le _, Nat.zero_le _⟩ dX4_become_41 (fun _ H locs hC => ?_)
  refine lv_aload_n hx hb dX4_become_44 rfl (lv_at hl 0 rfl) ?_
  refine lv_aload_n hx hb dX4_become_45 rfl (lv_at hl 1 rfl) ?_
  refine fg_get (C := RX4) (T := TX4) (N := 9) (ci := 0) (g := 0) (i := 0) (v := .int (d 1)) hx hb hown hts hX hC in_X4 rfl (cin rfl) rfl 4 (by decide) q251 (fun _ h => h) rfl dX4_become_46 ?_
  refine fg_put (C := RX4) (T := TX4) (N := 9) (ci := 0) (g := 4) (i := 0) hx hb hown hts hX hC in_X4 tyX4 tyX4_ok nmX4 rfl (cin rfl) rfl 4 (by decide) q251 (fun _ h => h) rfl rfl rfl (Nat.le_of_ble_eq_true rfl) (cct G (pg d kp as un (bk 5 to d) sc fd tp sh) sp) (cb_4 (w := to) (o := d) (by decide) pg4 rfl rfl) dX4_become_49 (fun H locs hC => ?_)
  refine lv_iconst (v := 0) hx hb dX4_become_52 rfl ?_
  refine lv_istore_n (lv' := [(2, .int 0), (0, .ref (G.ad 4 0)), (1, .ref (G.ad 0 0))]) hx hb dX4_become_53 rfl hl (by decide) rfl (fun ls hl => ?_)
  refine lv_iload_n hx hb dX4_become_54 rfl (lv_at hl 0 rfl) ?_
  refine lv_iconst (v := 4) hx hb dX4_become_55 rfl ?_
  refine fj_ge (tgt := 80) hx hb dX4_become_56 (by decide) (fun z_1 => absurd (by decide) z_1) (fun _ => ?_)
  refine lv_aload_n hx hb dX4_become_59 rfl (lv_at hl 2 rfl) ?_
  refine fg_get (C := RX4) (T := TX4) (N := 9) (ci := 0) (g := 0) (i := 0) (v := .ref (G.ad 0 5)) hx hb hown hts hX hC in_X4 rfl (cin rfl) rfl 5 (by decide) q254 (fun _ h => h) rfl dX4_become_60 ?_
  refine lv_iload_n hx hb dX4_become_63 rfl (lv_at hl 0 rfl) ?_
  refine fg_ald (g := 0) (i := 5) (t0 := 1) (ty := .array .int) (v := .ref (G.ad 0 6)) hx hb hX hC (cin rfl) rfl rfl rfl (vin_b rfl) rfl dX4_become_64 ?_
  refine lv_aload_n hx hb dX4_become_65 rfl (lv_at hl 1 rfl) ?_
  refine fg_get (C := RX4) (T := TX4) (N := 9) (ci := 0) (g := 4) (i := 0) (v := .ref (G.ad 4 5)) hx hb hown hts hX hC in_X4 rfl (cin rfl) rfl 5 (by decide) q254 (fun _ h => h) rfl dX4_become_66 ?_
  refine lv_iload_n hx hb dX4_become_69 rfl (lv_at hl 0 rfl) ?_
  refine fg_ald (g := 4) (i := 5) (t0 := 1) (ty := .array .int) (v := .ref (G.ad 4 6)) hx hb hX hC (cin rfl) rfl rfl rfl (vin_b rfl) rfl dX4_become_70 ?_
  refine fc_S (As := [.ref (G.ad 0 6), .ref (G.ad 4 6)]) (rest := []) hx hb hml hown hts hX hC (m_X4_copy (g1 := 0) (i1 := 6) (g2 := 4) (i2 := 6) (t0 := 0) (ctn := cct G (pg d kp as un (bk 6 to d) sc fd tp sh) sp) (cin rfl) rfl (cin rfl) rfl rfl (by decide) (cb_5 (w := to) (o := d) (by decide) pg4 rfl rfl)) (lw_S q704 q705 q115 q706) hdS_X4_copy ⟨rfl, rfl⟩ ⟨Nat.le_of_ble_eq_true rfl, Nat.le_of_ble_eq_true rfl⟩ hl.1 rfl (Nat.le_of_ble_eq_true rfl) ⟨Nat.zero_le _, Nat.zero_le _⟩ dX4_become_71 (fun _ H locs hC => ?_)
  refine lv_iinc (v := 1) (lv' := [(2, .int 1), (0, .ref (G.ad 4 0)), (1, .ref (G.ad 0 0))]) hx hb dX4_become_74 hl (k := 0) rfl rfl (by decide) rfl (fun ls hl => ?_)
  refine lv_goto (tgt := 54) hx hb dX4_become_77 (by decide) ?_
  refine lv_iload_n hx hb dX4_become_54 rfl (lv_at hl 0 rfl) ?_
  refine lv_iconst (v := 4) hx hb dX4_become_55 rfl ?_
  refine fj_ge (tgt := 80) hx hb dX4_become_56 (by decide) (fun z_2 => absurd (by decide) z_2) (fun _ => ?_)
  refine lv_aload_n hx hb dX4_become_59 rfl (lv_at hl 2 rfl) ?_
  refine fg_get (C := RX4) (T := TX4) (N := 9) (ci := 0) (g := 0) (i := 0) (v := .ref (G.ad 0 5)) hx hb hown hts hX hC in_X4 rfl (cin rfl) rfl 5 (by decide) q254 (fun _ h => h) rfl dX4_become_60 ?_
  refine lv_iload_n hx hb dX4_become_63 rfl (lv_at hl 0 rfl) ?_
  refine fg_ald (g := 0) (i := 5) (t0 := 1) (ty := .array .int) (v := .ref (G.ad 0 7)) hx hb hX hC (cin rfl) rfl rfl rfl (vin_b rfl) rfl dX4_become_64 ?_
  refine lv_aload_n hx hb dX4_become_65 rfl (lv_at hl 1 rfl) ?_
  refine fg_get (C := RX4) (T := TX4) (N := 9) (ci := 0) (g := 4) (i := 0) (v := .ref (G.ad 4 5)) hx hb hown hts hX hC in_X4 rfl (cin rfl) rfl 5 (by decide) q254 (fun _ h => h) rfl dX4_become_66 ?_
  refine lv_iload_n hx hb dX4_become_69 rfl (lv_at hl 0 rfl) ?_
  refine fg_ald (g := 4) (i := 5) (t0 := 1) (ty := .array .int) (v := .ref (G.ad 4 7)) hx hb hX hC (cin rfl) rfl rfl rfl (vin_b rfl) rfl dX4_become_70 ?_
  refine fc_S (As := [.ref (G.ad 0 7), .ref (G.ad 4 7)]) (rest := []) hx hb hml hown hts hX hC (m_X4_copy (g1 := 0) (i1 := 7) (g2 := 4) (i2 := 7) (t0 := 0) (ctn := cct G (pg d kp as un (bk 7 to d) sc fd tp sh) sp) (cin rfl) rfl (cin rfl) rfl rfl (by decide) (cb_6 (w := to) (o := d) (by decide) pg4 rfl rfl)) (lw_S q704 q705 q115 q706) hdS_X4_copy ⟨rfl, rfl⟩ ⟨Nat.le_of_ble_eq_true rfl, Nat.le_of_ble_eq_true rfl⟩ hl.1 rfl (Nat.le_of_ble_eq_true rfl) ⟨Nat.zero_le _, Nat.zero_le _⟩ dX4_become_71 (fun _ H locs hC => ?_)
  refine lv_iinc (v := 2) (lv' := [(2, .int 2), (0, .ref (G.ad 4 0)), (1, .ref (G.ad 0 0))]) hx hb dX4_become_74 hl (k := 0) rfl rfl (by decide) rfl (fun ls hl => ?_)
  refine lv_goto (tgt := 54) hx hb dX4_become_77 (by decide) ?_
  refine lv_iload_n hx hb dX4_become_54 rfl (lv_at hl 0 rfl) ?_
  refine lv_iconst (v := 4) hx hb dX4_become_55 rfl ?_
  refine fj_ge (tgt := 80) hx hb dX4_become_56 (by decide) (fun z_3 => absurd (by decide) z_3) (fun _ => ?_)
  refine lv_aload_n hx hb dX4_become_59 rfl (lv_at hl 2 rfl) ?_
  refine fg_get (C := RX4) (T := TX4) (N := 9) (ci := 0) (g := 0) (i := 0) (v := .ref (G.ad 0 5)) hx hb hown hts hX hC in_X4 rfl (cin rfl) rfl 5 (by decide) q254 (fun _ h => h) rfl dX4_become_60 ?_
  refine lv_iload_n hx hb dX4_become_63 rfl (lv_at hl 0 rfl) ?_
  refine fg_ald (g := 0) (i := 5) (t0 := 1) (ty := .array .int) (v := .ref (G.ad 0 8)) hx hb hX hC (cin rfl) rfl rfl rfl (vin_b rfl) rfl dX4_become_64 ?_
  refine lv_aload_n hx hb dX4_become_65 rfl (lv_at hl 1 rfl) ?_
  refine fg_get (C := RX4) (T := TX4) (N := 9) (ci := 0) (g := 4) (i := 0) (v := .ref (G.ad 4 5)) hx hb hown hts hX hC in_X4 rfl (cin rfl) rfl 5 (by decide) q254 (fun _ h => h) rfl dX4_become_66 ?_
  refine lv_iload_n hx hb dX4_become_69 rfl (lv_at hl 0 rfl) ?_
  refine fg_ald (g := 4) (i := 5) (t0 := 1) (ty := .array .int) (v := .ref (G.ad 4 8)) hx hb hX hC (cin rfl) rfl rfl rfl (vin_b rfl) rfl dX4_become_70 ?_
  refine fc_S (As := [.ref (G.ad 0 8), .ref (G.ad 4 8)]) (rest := []) hx hb hml hown hts hX hC (m_X4_copy (g1 := 0) (i1 := 8) (g2 := 4) (i2 := 8) (t0 := 0) (ctn := cct G (pg d kp as un (bk 8 to d) sc fd tp sh) sp) (cin rfl) rfl (cin rfl) rfl rfl (by decide) (cb_7 (w := to) (o := d) (by decide) pg4 rfl rfl)) (lw_S q704 q705 q115 q706) hdS_X4_copy ⟨rfl, rfl⟩ ⟨Nat.le_of_ble_eq_true rfl, Nat.le_of_ble_eq_true rfl⟩ hl.1 rfl (Nat.le_of_ble_eq_true rfl) ⟨Nat.zero_le _, Nat.zero_le _⟩ dX4_become_71 (fun _ H locs hC => ?_)
  refine lv_iinc (v := 3) (lv' := [(2, .int 3), (0, .ref (G.ad 4 0)), (1, .ref (G.ad 0 0))]) hx hb dX4_become_74 hl (k := 0) rfl rfl (by decide) rfl (fun ls hl => ?_)
  refine lv_goto (tgt := 54) hx hb dX4_become_77 (by decide) ?_
  refine lv_iload_n hx hb dX4_become_54 rfl (lv_at hl 0 rfl) ?_
  refine lv_iconst (v := 4) hx hb dX4_become_55 rfl ?_
  refine fj_ge (tgt := 80) hx hb dX4_become_56 (by decide) (fun z_4 => absurd (by decide) z_4) (fun _ => ?_)
  refine lv_aload_n hx hb dX4_become_59 rfl (lv_at hl 2 rfl) ?_
  refine fg_get (C := RX4) (T := TX4) (N := 9) (ci := 0) (g := 0) (i := 0) (v := .ref (G.ad 0 5)) hx hb hown hts hX hC in_X4 rfl (cin rfl) rfl 5 (by decide) q254 (fun _ h => h) rfl dX4_become_60 ?_
  refine lv_iload_n hx hb dX4_become_63 rfl (lv_at hl 0 rfl) ?_
  refine fg_ald (g := 0) (i := 5) (t0 := 1) (ty := .array .int) (v := .ref (G.ad 0 9)) hx hb hX hC (cin rfl) rfl rfl rfl (vin_b rfl) rfl dX4_become_64 ?_
  refine lv_aload_n hx hb dX4_become_65 rfl (lv_at hl 1 rfl) ?_
  refine fg_get (C := RX4) (T := TX4) (N := 9) (ci := 0) (g := 4) (i := 0) (v := .ref (G.ad 4 5)) hx hb hown hts hX hC in_X4 rfl (cin rfl) rfl 5 (by decide) q254 (fun _ h => h) rfl dX4_become_66 ?_
  refine lv_iload_n hx hb dX4_become_69 rfl (lv_at hl 0 rfl) ?_
  refine fg_ald (g := 4) (i := 5) (t0 := 1) (ty := .array .int) (v := .ref (G.ad 4 9)) hx hb hX hC (cin rfl) rfl rfl rfl (vin_b rfl) rfl dX4_become_70 ?_
  refine fc_S (As := [.ref (G.ad 0 9), .ref (G.ad 4 9)]) (rest := []) hx hb hml hown hts hX hC (m_X4_copy (g1 := 0) (i1 := 9) (g2 := 4) (i2 := 9) (t0 := 0) (ctn := cct G (pg d kp as un (bk 9 to d) sc fd tp sh) sp) (cin rfl) rfl (cin rfl) rfl rfl (by decide) (cb_8 (w := to) (o := d) (by decide) pg4 rfl rfl)) (lw_S q704 q705 q115 q706) hdS_X4_copy ⟨rfl, rfl⟩ ⟨Nat.le_of_ble_eq_true rfl, Nat.le_of_ble_eq_true rfl⟩ hl.1 rfl (Nat.le_of_ble_eq_true rfl) ⟨Nat.zero_le _, Nat.zero_le _⟩ dX4_become_71 (fun _ H locs hC => ?_)
  refine lv_iinc (v := 4) (lv' := [(2, .int 4), (0, .ref (G.ad 4 0)), (1, .ref (G.ad 0 0))]) hx hb dX4_become_74 hl (k := 0) rfl rfl (by decide) rfl (fun ls hl => ?_)
  refine lv_goto (tgt := 54) hx hb dX4_become_77 (by decide) ?_
  refine lv_iload_n hx hb dX4_become_54 rfl (lv_at hl 0 rfl) ?_
  refine lv_iconst (v := 4) hx hb dX4_become_55 rfl ?_
  refine fj_ge (tgt := 80) hx hb dX4_become_56 (by decide) (fun _ => ?_) (fun z_5 => absurd z_5 (by decide))
  refine lv_aload_n hx hb dX4_become_80 rfl (lv_at hl 1 rfl) ?_
  refine lv_aload_n hx hb dX4_become_81 rfl (lv_at hl 2 rfl) ?_
  refine fg_get (C := RX4) (T := TX4) (N := 9) (ci := 0) (g := 0) (i := 0) (v := .int (d 0)) hx hb hown hts hX hC in_X4 rfl (cin rfl) rfl 6 (by decide) q258 (fun _ h => h) rfl dX4_become_82 ?_
  refine fg_put (C := RX4) (T := TX4) (N := 9) (ci := 0) (g := 4) (i := 0) hx hb hown hts hX hC in_X4 tyX4 tyX4_ok nmX4 rfl (cin rfl) rfl 6 (by decide) q258 (fun _ h => h) rfl rfl rfl (Nat.le_of_ble_eq_true rfl) (cct G (pg d kp as un (bk 10 to d) sc fd tp sh) sp) (cb_9 (w := to) (o := d) (by decide) pg4 rfl rfl) dX4_become_85 (fun H locs hC => ?_)
  refine lv_aload_n hx hb dX4_become_88 rfl (lv_at hl 1 rfl) ?_
  refine lv_aload_n hx hb dX4_become_89 rfl (lv_at hl 2 rfl) ?_
  refine fg_get (C := RX4) (T := TX4) (N := 9) (ci := 0) (g := 0) (i := 0) (v := .int (d 2)) hx hb hown hts hX hC in_X4 rfl (cin rfl) rfl 7 (by decide) q260 (fun _ h => h) rfl dX4_become_90 ?_
  refine fg_put (C := RX4) (T := TX4) (N := 9) (ci := 0) (g := 4) (i := 0) hx hb hown hts hX hC in_X4 tyX4 tyX4_ok nmX4 rfl (cin rfl) rfl 7 (by decide) q260 (fun _ h => h) rfl rfl rfl (Nat.le_of_ble_eq_true rfl) (cct G (pg d kp as un (bk 11 to d) sc fd tp sh) sp) (cb_10 (w := to) (o := d) (by decide) pg4 rfl rfl) dX4_become_93 (fun H locs hC => ?_)
  refine lv_aload_n hx hb dX4_become_96 rfl (lv_at hl 2 rfl) ?_
  refine fg_get (C := RX4) (T := TX4) (N := 9) (ci := 0) (g := 0) (i := 0) (v := .ref (G.ad 0 10)) hx hb hown hts hX hC in_X4 rfl (cin rfl) rfl 8 (by decide) q262 (fun _ h => h) rfl dX4_become_97 ?_
  refine lv_aload_n hx hb dX4_become_100 rfl (lv_at hl 1 rfl) ?_
  refine fg_get (C := RX4) (T := TX4) (N := 9) (ci := 0) (g := 4) (i := 0) (v := .ref (G.ad 4 10)) hx hb hown hts hX hC in_X4 rfl (cin rfl) rfl 8 (by decide) q262 (fun _ h => h) rfl dX4_become_101 ?_
  refine fc_S (As := [.ref (G.ad 0 10), .ref (G.ad 4 10)]) (rest := []) hx hb hml hown hts hX hC (m_X4_copy (g1 := 0) (i1 := 10) (g2 := 4) (i2 := 10) (t0 := 0) (ctn := cct G (pg d kp as un (bk 12 to d) sc fd tp sh) sp) (cin rfl) rfl (cin rfl) rfl rfl (by decide) (cb_11 (w := to) (o := d) (by decide) pg4 rfl rfl)) (lw_S q704 q705 q115 q706) hdS_X4_copy ⟨rfl, rfl⟩ ⟨Nat.le_of_ble_eq_true rfl, Nat.le_of_ble_eq_true rfl⟩ hl.1 rfl (Nat.le_of_ble_eq_true rfl) ⟨Nat.zero_le _, Nat.zero_le _⟩ dX4_become_104 (fun _ H locs hC => ?_)
  have hC := cc_cong (P' := pg d kp as un d sc fd tp sh) (g := 4) (by decide) pg4 bk_all hC
  exact fr_v hx hb hr hlocks hX hC () rfl rfl dX4_become_107
set_option maxRecDepth 100000 in
theorem m_X4_become_04 {l : Launch} {G : Gc} {d kp as un to sc fd tp sh : Row} {sp : Nat → Option Nat}  : Cm l yX4_become (ws_ yX4_become cX4_become 3 none) ({ frames := 2, cells := 0, slots := 0, locals := 81 }) (cF G) [.ref (G.ad 0 0), .ref (G.ad 4 0)] (cct G (pg d kp as un to sc fd tp sh) sp) (fun _ : Unit => none) (fun _ => cct G (pg to kp as un to sc fd tp sh) sp) := by
  refine Cm.start (by decide) (Nat.le_of_ble_eq_true rfl) ?_
  intro p e s m below meth c hf hX hC ls hl
  obtain ⟨hx, hb, hr, hml, hown, hts, hlocks⟩ := hf
  have hl : lv_has ls 3 [(0, .ref (G.ad 0 0)), (1, .ref (G.ad 4 0))] := hl
  have hown : s.vm.findClass "OwlEars$World" = some m.cls := hown
  refine lv_aload_n hx hb dX4_become_0 rfl (lv_at hl 1 rfl) ?_
  refine fg_get (C := RX4) (T := TX4) (N := 9) (ci := 0) (g := 4) (i := 0) (v := .ref (G.ad 4 1)) hx hb hown hts hX hC in_X4 rfl (cin rfl) rfl 0 (by decide) q238 (fun _ h => h) rfl dX4_become_1 ?_
  refine lv_aload_n hx hb dX4_become_4 rfl (lv_at hl 0 rfl) ?_
  refine fg_get (C := RX4) (T := TX4) (N := 9) (ci := 0) (g := 0) (i := 0) (v := .ref (G.ad 0 1)) hx hb hown hts hX hC in_X4 rfl (cin rfl) rfl 0 (by decide) q238 (fun _ h => h) rfl dX4_become_5 ?_
  refine fc_S (As := [.ref (G.ad 4 1), .ref (G.ad 0 1)]) (rest := []) hx hb hml hown hts hX hC (m_X4_copy (g1 := 4) (i1 := 1) (g2 := 0) (i2 := 1) (t0 := 0) (ctn := cct G (pg (bk 1 d to) kp as un to sc fd tp sh) sp) (cin rfl) rfl (cin rfl) rfl rfl (by decide) (cb_0 (w := d) (o := to) (by decide) pg0 (bk_0 _ _) rfl)) (lw_S q704 q705 q115 q706) hdS_X4_copy ⟨rfl, rfl⟩ ⟨Nat.le_of_ble_eq_true rfl, Nat.le_of_ble_eq_true rfl⟩ hl.1 rfl (Nat.le_of_ble_eq_true rfl) ⟨Nat.zero_le _, Nat.zero_le _⟩ dX4_become_8 (fun _ H locs hC => ?_)
  refine lv_aload_n hx hb dX4_become_11 rfl (lv_at hl 1 rfl) ?_
  refine fg_get (C := RX4) (T := TX4) (N := 9) (ci := 0) (g := 4) (i := 0) (v := .ref (G.ad 4 2)) hx hb hown hts hX hC in_X4 rfl (cin rfl) rfl 1 (by decide) q241 (fun _ h => h) rfl dX4_become_12 ?_
  refine lv_aload_n hx hb dX4_become_15 rfl (lv_at hl 0 rfl) ?_
  refine fg_get (C := RX4) (T := TX4) (N := 9) (ci := 0) (g := 0) (i := 0) (v := .ref (G.ad 0 2)) hx hb hown hts hX hC in_X4 rfl (cin rfl) rfl 1 (by decide) q241 (fun _ h => h) rfl dX4_become_16 ?_
  refine fc_S (As := [.ref (G.ad 4 2), .ref (G.ad 0 2)]) (rest := []) hx hb hml hown hts hX hC (m_X4_copy (g1 := 4) (i1 := 2) (g2 := 0) (i2 := 2) (t0 := 0) (ctn := cct G (pg (bk 2 d to) kp as un to sc fd tp sh) sp) (cin rfl) rfl (cin rfl) rfl rfl (by decide) (cb_1 (w := d) (o := to) (by decide) pg0 rfl rfl)) (lw_S q704 q705 q115 q706) hdS_X4_copy ⟨rfl, rfl⟩ ⟨Nat.le_of_ble_eq_true rfl, Nat.le_of_ble_eq_true rfl⟩ hl.1 rfl (Nat.le_of_ble_eq_true rfl) ⟨Nat.zero_le _, Nat.zero_le _⟩ dX4_become_19 (fun _ H locs hC => ?_)
  refine lv_aload_n hx hb dX4_become_22 rfl (lv_at hl 1 rfl) ?_
  refine fg_get (C := RX4) (T := TX4) (N := 9) (ci := 0) (g := 4) (i := 0) (v := .ref (G.ad 4 3)) hx hb hown hts hX hC in_X4 rfl (cin rfl) rfl 2 (by decide) q244 (fun _ h => h) rfl dX4_become_23 ?_
  refine lv_aload_n hx hb dX4_become_26 rfl (lv_at hl 0 rfl) ?_
  refine fg_get (C := RX4) (T := TX4) (N := 9) (ci := 0) (g := 0) (i := 0) (v := .ref (G.ad 0 3)) hx hb hown hts hX hC in_X4 rfl (cin rfl) rfl 2 (by decide) q244 (fun _ h => h) rfl dX4_become_27 ?_
  refine fc_S (As := [.ref (G.ad 4 3), .ref (G.ad 0 3)]) (rest := []) hx hb hml hown hts hX hC (m_X4_copy (g1 := 4) (i1 := 3) (g2 := 0) (i2 := 3) (t0 := 0) (ctn := cct G (pg (bk 3 d to) kp as un to sc fd tp sh) sp) (cin rfl) rfl (cin rfl) rfl rfl (by decide) (cb_2 (w := d) (o := to) (by decide) pg0 rfl rfl)) (lw_S q704 q705 q115 q706) hdS_X4_copy ⟨rfl, rfl⟩ ⟨Nat.le_of_ble_eq_true rfl, Nat.le_of_ble_eq_true rfl⟩ hl.1 rfl (Nat.le_of_ble_eq_true rfl) ⟨Nat.zero_le _, Nat.zero_le _⟩ dX4_become_30 (fun _ H locs hC => ?_)
  refine lv_aload_n hx hb dX4_become_33 rfl (lv_at hl 1 rfl) ?_
  refine fg_get (C := RX4) (T := TX4) (N := 9) (ci := 0) (g := 4) (i := 0) (v := .ref (G.ad 4 4)) hx hb hown hts hX hC in_X4 rfl (cin rfl) rfl 3 (by decide) q247 (fun _ h => h) rfl dX4_become_34 ?_
  refine lv_aload_n hx hb dX4_become_37 rfl (lv_at hl 0 rfl) ?_
  refine fg_get (C := RX4) (T := TX4) (N := 9) (ci := 0) (g := 0) (i := 0) (v := .ref (G.ad 0 4)) hx hb hown hts hX hC in_X4 rfl (cin rfl) rfl 3 (by decide) q247 (fun _ h => h) rfl dX4_become_38 ?_
  refine fc_S (As := [.ref (G.ad 4 4), .ref (G.ad 0 4)]) (rest := []) hx hb hml hown hts hX hC (m_X4_copy (g1 := 4) (i1 := 4) (g2 := 0) (i2 := 4) (t0 := 0) (ctn := cct G (pg (bk 4 d to) kp as un to sc fd tp sh) sp) (cin rfl) rfl (cin rfl) rfl rfl (by decide) (cb_3 (w := d) (o := to) (by decide) pg0 rfl rfl)) (lw_S q704 q705 q115 q706) hdS_X4_copy ⟨rfl, rfl⟩ ⟨Nat.le_of_ble_eq_true rfl, Nat.le_of_ble_eq_true rfl⟩ hl.1 rfl (Nat.le_of_ble_eq_true rfl) ⟨Nat.zero_le _, Nat.zero_le _⟩ dX4_become_41 (fun _ H locs hC => ?_)
  refine lv_aload_n hx hb dX4_become_44 rfl (lv_at hl 0 rfl) ?_
  refine lv_aload_n hx hb dX4_become_45 rfl (lv_at hl 1 rfl) ?_
  refine fg_get (C := RX4) (T := TX4) (N := 9) (ci := 0) (g := 4) (i := 0) (v := .int (to 1)) hx hb hown hts hX hC in_X4 rfl (cin rfl) rfl 4 (by decide) q251 (fun _ h => h) rfl dX4_become_46 ?_
  refine fg_put (C := RX4) (T := TX4) (N := 9) (ci := 0) (g := 0) (i := 0) hx hb hown hts hX hC in_X4 tyX4 tyX4_ok nmX4 rfl (cin rfl) rfl 4 (by decide) q251 (fun _ h => h) rfl rfl rfl (Nat.le_of_ble_eq_true rfl) (cct G (pg (bk 5 d to) kp as un to sc fd tp sh) sp) (cb_4 (w := d) (o := to) (by decide) pg0 rfl rfl) dX4_become_49 (fun H locs hC => ?_)
  refine lv_iconst (v := 0) hx hb dX4_become_52 rfl ?_
  refine lv_istore_n (lv' := [(2, .int 0), (0, .ref (G.ad 0 0)), (1, .ref (G.ad 4 0))]) hx hb dX4_become_53 rfl hl (by decide) rfl (fun ls hl => ?_)
  refine lv_iload_n hx hb dX4_become_54 rfl (lv_at hl 0 rfl) ?_
  refine lv_iconst (v := 4) hx hb dX4_become_55 rfl ?_
  refine fj_ge (tgt := 80) hx hb dX4_become_56 (by decide) (fun z_1 => absurd (by decide) z_1) (fun _ => ?_)
  refine lv_aload_n hx hb dX4_become_59 rfl (lv_at hl 2 rfl) ?_
  refine fg_get (C := RX4) (T := TX4) (N := 9) (ci := 0) (g := 4) (i := 0) (v := .ref (G.ad 4 5)) hx hb hown hts hX hC in_X4 rfl (cin rfl) rfl 5 (by decide) q254 (fun _ h => h) rfl dX4_become_60 ?_
  refine lv_iload_n hx hb dX4_become_63 rfl (lv_at hl 0 rfl) ?_
  refine fg_ald (g := 4) (i := 5) (t0 := 1) (ty := .array .int) (v := .ref (G.ad 4 6)) hx hb hX hC (cin rfl) rfl rfl rfl (vin_b rfl) rfl dX4_become_64 ?_
  refine lv_aload_n hx hb dX4_become_65 rfl (lv_at hl 1 rfl) ?_
  refine fg_get (C := RX4) (T := TX4) (N := 9) (ci := 0) (g := 0) (i := 0) (v := .ref (G.ad 0 5)) hx hb hown hts hX hC in_X4 rfl (cin rfl) rfl 5 (by decide) q254 (fun _ h => h) rfl dX4_become_66 ?_
  refine lv_iload_n hx hb dX4_become_69 rfl (lv_at hl 0 rfl) ?_
  refine fg_ald (g := 0) (i := 5) (t0 := 1) (ty := .array .int) (v := .ref (G.ad 0 6)) hx hb hX hC (cin rfl) rfl rfl rfl (vin_b rfl) rfl dX4_become_70 ?_
  refine fc_S (As := [.ref (G.ad 4 6), .ref (G.ad 0 6)]) (rest := []) hx hb hml hown hts hX hC (m_X4_copy (g1 := 4) (i1 := 6) (g2 := 0) (i2 := 6) (t0 := 0) (ctn := cct G (pg (bk 6 d to) kp as un to sc fd tp sh) sp) (cin rfl) rfl (cin rfl) rfl rfl (by decide) (cb_5 (w := d) (o := to) (by decide) pg0 rfl rfl)) (lw_S q704 q705 q115 q706) hdS_X4_copy ⟨rfl, rfl⟩ ⟨Nat.le_of_ble_eq_true rfl, Nat.le_of_ble_eq_true rfl⟩ hl.1 rfl (Nat.le_of_ble_eq_true rfl) ⟨Nat.zero_le _, Nat.zero_le _⟩ dX4_become_71 (fun _ H locs hC => ?_)
  refine lv_iinc (v := 1) (lv' := [(2, .int 1), (0, .ref (G.ad 0 0)), (1, .ref (G.ad 4 0))]) hx hb dX4_become_74 hl (k := 0) rfl rfl (by decide) rfl (fun ls hl => ?_)
  refine lv_goto (tgt := 54) hx hb dX4_become_77 (by decide) ?_
  refine lv_iload_n hx hb dX4_become_54 rfl (lv_at hl 0 rfl) ?_
  refine lv_iconst (v := 4) hx hb dX4_become_55 rfl ?_
  refine fj_ge (tgt := 80) hx hb dX4_become_56 (by decide) (fun z_2 => absurd (by decide) z_2) (fun _ => ?_)
  refine lv_aload_n hx hb dX4_become_59 rfl (lv_at hl 2 rfl) ?_
  refine fg_get (C := RX4) (T := TX4) (N := 9) (ci := 0) (g := 4) (i := 0) (v := .ref (G.ad 4 5)) hx hb hown hts hX hC in_X4 rfl (cin rfl) rfl 5 (by decide) q254 (fun _ h => h) rfl dX4_become_60 ?_
  refine lv_iload_n hx hb dX4_become_63 rfl (lv_at hl 0 rfl) ?_
  refine fg_ald (g := 4) (i := 5) (t0 := 1) (ty := .array .int) (v := .ref (G.ad 4 7)) hx hb hX hC (cin rfl) rfl rfl rfl (vin_b rfl) rfl dX4_become_64 ?_
  refine lv_aload_n hx hb dX4_become_65 rfl (lv_at hl 1 rfl) ?_
  refine fg_get (C := RX4) (T := TX4) (N := 9) (ci := 0) (g := 0) (i := 0) (v := .ref (G.ad 0 5)) hx hb hown hts hX hC in_X4 rfl (cin rfl) rfl 5 (by decide) q254 (fun _ h => h) rfl dX4_become_66 ?_
  refine lv_iload_n hx hb dX4_become_69 rfl (lv_at hl 0 rfl) ?_
  refine fg_ald (g := 0) (i := 5) (t0 := 1) (ty := .array .int) (v := .ref (G.ad 0 7)) hx hb hX hC (cin rfl) rfl rfl rfl (vin_b rfl) rfl dX4_become_70 ?_
  refine fc_S (As := [.ref (G.ad 4 7), .ref (G.ad 0 7)]) (rest := []) hx hb hml hown hts hX hC (m_X4_copy (g1 := 4) (i1 := 7) (g2 := 0) (i2 := 7) (t0 := 0) (ctn := cct G (pg (bk 7 d to) kp as un to sc fd tp sh) sp) (cin rfl) rfl (cin rfl) rfl rfl (by decide) (cb_6 (w := d) (o := to) (by decide) pg0 rfl rfl)) (lw_S q704 q705 q115 q706) hdS_X4_copy ⟨rfl, rfl⟩ ⟨Nat.le_of_ble_eq_true rfl, Nat.le_of_ble_eq_true rfl⟩ hl.1 rfl (Nat.le_of_ble_eq_true rfl) ⟨Nat.zero_le _, Nat.zero_le _⟩ dX4_become_71 (fun _ H locs hC => ?_)
  refine lv_iinc (v := 2) (lv' := [(2, .int 2), (0, .ref (G.ad 0 0)), (1, .ref (G.ad 4 0))]) hx hb dX4_become_74 hl (k := 0) rfl rfl (by decide) rfl (fun ls hl => ?_)
  refine lv_goto (tgt := 54) hx hb dX4_become_77 (by decide) ?_
  refine lv_iload_n hx hb dX4_become_54 rfl (lv_at hl 0 rfl) ?_
  refine lv_iconst (v := 4) hx hb dX4_become_55 rfl ?_
  refine fj_ge (tgt := 80) hx hb dX4_become_56 (by decide) (fun z_3 => absurd (by decide) z_3) (fun _ => ?_)
  refine lv_aload_n hx hb dX4_become_59 rfl (lv_at hl 2 rfl) ?_
  refine fg_get (C := RX4) (T := TX4) (N := 9) (ci := 0) (g := 4) (i := 0) (v := .ref (G.ad 4 5)) hx hb hown hts hX hC in_X4 rfl (cin rfl) rfl 5 (by decide) q254 (fun _ h => h) rfl dX4_become_60 ?_
  refine lv_iload_n hx hb dX4_become_63 rfl (lv_at hl 0 rfl) ?_
  refine fg_ald (g := 4) (i := 5) (t0 := 1) (ty := .array .int) (v := .ref (G.ad 4 8)) hx hb hX hC (cin rfl) rfl rfl rfl (vin_b rfl) rfl dX4_become_64 ?_
  refine lv_aload_n hx hb dX4_become_65 rfl (lv_at hl 1 rfl) ?_
  refine fg_get (C := RX4) (T := TX4) (N := 9) (ci := 0) (g := 0) (i := 0) (v := .ref (G.ad 0 5)) hx hb hown hts hX hC in_X4 rfl (cin rfl) rfl 5 (by decide) q254 (fun _ h => h) rfl dX4_become_66 ?_
  refine lv_iload_n hx hb dX4_become_69 rfl (lv_at hl 0 rfl) ?_
  refine fg_ald (g := 0) (i := 5) (t0 := 1) (ty := .array .int) (v := .ref (G.ad 0 8)) hx hb hX hC (cin rfl) rfl rfl rfl (vin_b rfl) rfl dX4_become_70 ?_
  refine fc_S (As := [.ref (G.ad 4 8), .ref (G.ad 0 8)]) (rest := []) hx hb hml hown hts hX hC (m_X4_copy (g1 := 4) (i1 := 8) (g2 := 0) (i2 := 8) (t0 := 0) (ctn := cct G (pg (bk 8 d to) kp as un to sc fd tp sh) sp) (cin rfl) rfl (cin rfl) rfl rfl (by decide) (cb_7 (w := d) (o := to) (by decide) pg0 rfl rfl)) (lw_S q704 q705 q115 q706) hdS_X4_copy ⟨rfl, rfl⟩ ⟨Nat.le_of_ble_eq_true rfl, Nat.le_of_ble_eq_true rfl⟩ hl.1 rfl (Nat.le_of_ble_eq_true rfl) ⟨Nat.zero_le _, Nat.zero_le _⟩ dX4_become_71 (fun _ H locs hC => ?_)
  refine lv_iinc (v := 3) (lv' := [(2, .int 3), (0, .ref (G.ad 0 0)), (1, .ref (G.ad 4 0))]) hx hb dX4_become_74 hl (k := 0) rfl rfl (by decide) rfl (fun ls hl => ?_)
  refine lv_goto (tgt := 54) hx hb dX4_become_77 (by decide) ?_
  refine lv_iload_n hx hb dX4_become_54 rfl (lv_at hl 0 rfl) ?_
  refine lv_iconst (v := 4) hx hb dX4_become_55 rfl ?_
  refine fj_ge (tgt := 80) hx hb dX4_become_56 (by decide) (fun z_4 => absurd (by decide) z_4) (fun _ => ?_)
  refine lv_aload_n hx hb dX4_become_59 rfl (lv_at hl 2 rfl) ?_
  refine fg_get (C := RX4) (T := TX4) (N := 9) (ci := 0) (g := 4) (i := 0) (v := .ref (G.ad 4 5)) hx hb hown hts hX hC in_X4 rfl (cin rfl) rfl 5 (by decide) q254 (fun _ h => h) rfl dX4_become_60 ?_
  refine lv_iload_n hx hb dX4_become_63 rfl (lv_at hl 0 rfl) ?_
  refine fg_ald (g := 4) (i := 5) (t0 := 1) (ty := .array .int) (v := .ref (G.ad 4 9)) hx hb hX hC (cin rfl) rfl rfl rfl (vin_b rfl) rfl dX4_become_64 ?_
  refine lv_aload_n hx hb dX4_become_65 rfl (lv_at hl 1 rfl) ?_
  refine fg_get (C := RX4) (T := TX4) (N := 9) (ci := 0) (g := 0) (i := 0) (v := .ref (G.ad 0 5)) hx hb hown hts hX hC in_X4 rfl (cin rfl) rfl 5 (by decide) q254 (fun _ h => h) rfl dX4_become_66 ?_
  refine lv_iload_n hx hb dX4_become_69 rfl (lv_at hl 0 rfl) ?_
  refine fg_ald (g := 0) (i := 5) (t0 := 1) (ty := .array .int) (v := .ref (G.ad 0 9)) hx hb hX hC (cin rfl) rfl rfl rfl (vin_b rfl) rfl dX4_become_70 ?_
  refine fc_S (As := [.ref (G.ad 4 9), .ref (G.ad 0 9)]) (rest := []) hx hb hml hown hts hX hC (m_X4_copy (g1 := 4) (i1 := 9) (g2 := 0) (i2 := 9) (t0 := 0) (ctn := cct G (pg (bk 9 d to) kp as un to sc fd tp sh) sp) (cin rfl) rfl (cin rfl) rfl rfl (by decide) (cb_8 (w := d) (o := to) (by decide) pg0 rfl rfl)) (lw_S q704 q705 q115 q706) hdS_X4_copy ⟨rfl, rfl⟩ ⟨Nat.le_of_ble_eq_true rfl, Nat.le_of_ble_eq_true rfl⟩ hl.1 rfl (Nat.le_of_ble_eq_true rfl) ⟨Nat.zero_le _, Nat.zero_le _⟩ dX4_become_71 (fun _ H locs hC => ?_)
  refine lv_iinc (v := 4) (lv' := [(2, .int 4), (0, .ref (G.ad 0 0)), (1, .ref (G.ad 4 0))]) hx hb dX4_become_74 hl (k := 0) rfl rfl (by decide) rfl (fun ls hl => ?_)
  refine lv_goto (tgt := 54) hx hb dX4_become_77 (by decide) ?_
  refine lv_iload_n hx hb dX4_become_54 rfl (lv_at hl 0 rfl) ?_
  refine lv_iconst (v := 4) hx hb dX4_become_55 rfl ?_
  refine fj_ge (tgt := 80) hx hb dX4_become_56 (by decide) (fun _ => ?_) (fun z_5 => absurd z_5 (by decide))
  refine lv_aload_n hx hb dX4_become_80 rfl (lv_at hl 1 rfl) ?_
  refine lv_aload_n hx hb dX4_become_81 rfl (lv_at hl 2 rfl) ?_
  refine fg_get (C := RX4) (T := TX4) (N := 9) (ci := 0) (g := 4) (i := 0) (v := .int (to 0)) hx hb hown hts hX hC in_X4 rfl (cin rfl) rfl 6 (by decide) q258 (fun _ h => h) rfl dX4_become_82 ?_
  refine fg_put (C := RX4) (T := TX4) (N := 9) (ci := 0) (g := 0) (i := 0) hx hb hown hts hX hC in_X4 tyX4 tyX4_ok nmX4 rfl (cin rfl) rfl 6 (by decide) q258 (fun _ h => h) rfl rfl rfl (Nat.le_of_ble_eq_true rfl) (cct G (pg (bk 10 d to) kp as un to sc fd tp sh) sp) (cb_9 (w := d) (o := to) (by decide) pg0 rfl rfl) dX4_become_85 (fun H locs hC => ?_)
  refine lv_aload_n hx hb dX4_become_88 rfl (lv_at hl 1 rfl) ?_
  refine lv_aload_n hx hb dX4_become_89 rfl (lv_at hl 2 rfl) ?_
  refine fg_get (C := RX4) (T := TX4) (N := 9) (ci := 0) (g := 4) (i := 0) (v := .int (to 2)) hx hb hown hts hX hC in_X4 rfl (cin rfl) rfl 7 (by decide) q260 (fun _ h => h) rfl dX4_become_90 ?_
  refine fg_put (C := RX4) (T := TX4) (N := 9) (ci := 0) (g := 0) (i := 0) hx hb hown hts hX hC in_X4 tyX4 tyX4_ok nmX4 rfl (cin rfl) rfl 7 (by decide) q260 (fun _ h => h) rfl rfl rfl (Nat.le_of_ble_eq_true rfl) (cct G (pg (bk 11 d to) kp as un to sc fd tp sh) sp) (cb_10 (w := d) (o := to) (by decide) pg0 rfl rfl) dX4_become_93 (fun H locs hC => ?_)
  refine lv_aload_n hx hb dX4_become_96 rfl (lv_at hl 2 rfl) ?_
  refine fg_get (C := RX4) (T := TX4) (N := 9) (ci := 0) (g := 4) (i := 0) (v := .ref (G.ad 4 10)) hx hb hown hts hX hC in_X4 rfl (cin rfl) rfl 8 (by decide) q262 (fun _ h => h) rfl dX4_become_97 ?_
  refine lv_aload_n hx hb dX4_become_100 rfl (lv_at hl 1 rfl) ?_
  refine fg_get (C := RX4) (T := TX4) (N := 9) (ci := 0) (g := 0) (i := 0) (v := .ref (G.ad 0 10)) hx hb hown hts hX hC in_X4 rfl (cin rfl) rfl 8 (by decide) q262 (fun _ h => h) rfl dX4_become_101 ?_
  refine fc_S (As := [.ref (G.ad 4 10), .ref (G.ad 0 10)]) (rest := []) hx hb hml hown hts hX hC (m_X4_copy (g1 := 4) (i1 := 10) (g2 := 0) (i2 := 10) (t0 := 0) (ctn := cct G (pg (bk 12 d to) kp as un to sc fd tp sh) sp) (cin rfl) rfl (cin rfl) rfl rfl (by decide) (cb_11 (w := d) (o := to) (by decide) pg0 rfl rfl)) (lw_S q704 q705 q115 q706) hdS_X4_copy ⟨rfl, rfl⟩ ⟨Nat.le_of_ble_eq_true rfl, Nat.le_of_ble_eq_true rfl⟩ hl.1 rfl (Nat.le_of_ble_eq_true rfl) ⟨Nat.zero_le _, Nat.zero_le _⟩ dX4_become_104 (fun _ H locs hC => ?_)
  have hC := cc_cong (P' := pg to kp as un to sc fd tp sh) (g := 0) (by decide) pg0 bk_all hC
  exact fr_v hx hb hr hlocks hX hC () rfl rfl dX4_become_107
set_option maxRecDepth 100000 in
theorem m_X4_add_0 {l : Launch} {G : Gc} {d kp as un to sc fd tp sh : Row} {sp : Nat → Option Nat} (kind aim : Int32) (hn : vp_in (d 1) 8) : Cm l yX4_add (ws_ yX4_add cX4_add 3 none) ({ frames := 0, cells := 0, slots := 0, locals := 0 }) (cF G) [.ref (G.ad 0 0), .int kind, .int aim] (cct G (pg d kp as un to sc fd tp sh) sp) (fun _ : Unit => none) (fun _ => cct G (pg (p_add d kind aim) kp as un to sc fd tp sh) sp) := by
  refine Cm.start (by decide) (Nat.le_of_ble_eq_true rfl) ?_
  intro p e s m below meth c hf hX hC ls hl
  obtain ⟨hx, hb, hr, hml, hown, hts, hlocks⟩ := hf
  have hl : lv_has ls 3 [(0, .ref (G.ad 0 0)), (1, .int kind), (2, .int aim)] := hl
  have hown : s.vm.findClass "OwlEars$World" = some m.cls := hown
  refine lv_aload_n hx hb dX4_add_0 rfl (lv_at hl 0 rfl) ?_
  refine fg_get (C := RX4) (T := TX4) (N := 9) (ci := 0) (g := 0) (i := 0) (v := .ref (G.ad 0 5)) hx hb hown hts hX hC in_X4 rfl (cin rfl) rfl 5 (by decide) q254 (fun _ h => h) rfl dX4_add_1 ?_
  refine lv_iconst (v := 0) hx hb dX4_add_4 rfl ?_
  refine fg_ald (g := 0) (i := 5) (t0 := 1) (ty := .array .int) (v := .ref (G.ad 0 6)) hx hb hX hC (cin rfl) rfl rfl rfl (vin_b rfl) rfl dX4_add_5 ?_
  refine lv_aload_n hx hb dX4_add_6 rfl (lv_at hl 0 rfl) ?_
  refine fg_get (C := RX4) (T := TX4) (N := 9) (ci := 0) (g := 0) (i := 0) (v := .int (d 1)) hx hb hown hts hX hC in_X4 rfl (cin rfl) rfl 4 (by decide) q251 (fun _ h => h) rfl dX4_add_7 ?_
  refine lv_iload_n hx hb dX4_add_10 rfl (lv_at hl 1 rfl) ?_
  refine fg_iast (g := 0) (i := 6) (t0 := 0) hx hb hX hC (cin rfl) rfl rfl hn (cct G (pg (upd d (92 + 4 * (ix (d 1))) kind) kp as un to sc fd tp sh) sp) (cs_r0 (k := ix (d 1))) dX4_add_11 (fun H locs hC => ?_)
  refine lv_aload_n hx hb dX4_add_12 rfl (lv_at hl 0 rfl) ?_
  refine fg_get (C := RX4) (T := TX4) (N := 9) (ci := 0) (g := 0) (i := 0) (v := .ref (G.ad 0 5)) hx hb hown hts hX hC in_X4 rfl (cin rfl) rfl 5 (by decide) q254 (fun _ h => h) rfl dX4_add_13 ?_
  refine lv_iconst (v := 1) hx hb dX4_add_16 rfl ?_
  refine fg_ald (g := 0) (i := 5) (t0 := 1) (ty := .array .int) (v := .ref (G.ad 0 7)) hx hb hX hC (cin rfl) rfl rfl rfl (vin_b rfl) rfl dX4_add_17 ?_
  refine lv_aload_n hx hb dX4_add_18 rfl (lv_at hl 0 rfl) ?_
  refine fg_get (C := RX4) (T := TX4) (N := 9) (ci := 0) (g := 0) (i := 0) (v := .int (d 1)) hx hb hown hts hX hC in_X4 rfl (cin rfl) rfl 4 (by decide) q251 (fun _ h => h) (congrArg (fun z => some (Value.int z)) (upd_n (j := 1) (by omega))) dX4_add_19 ?_
  refine lv_iload_n hx hb dX4_add_22 rfl (lv_at hl 2 rfl) ?_
  refine fg_iast (g := 0) (i := 7) (t0 := 0) hx hb hX hC (cin rfl) rfl rfl hn (cct G (pg (upd (upd d (92 + 4 * (ix (d 1))) kind) (93 + 4 * (ix (d 1))) aim) kp as un to sc fd tp sh) sp) (cs_r1 (k := ix (d 1))) dX4_add_23 (fun H locs hC => ?_)
  refine lv_aload_n hx hb dX4_add_24 rfl (lv_at hl 0 rfl) ?_
  refine fg_get (C := RX4) (T := TX4) (N := 9) (ci := 0) (g := 0) (i := 0) (v := .ref (G.ad 0 5)) hx hb hown hts hX hC in_X4 rfl (cin rfl) rfl 5 (by decide) q254 (fun _ h => h) rfl dX4_add_25 ?_
  refine lv_iconst (v := 2) hx hb dX4_add_28 rfl ?_
  refine fg_ald (g := 0) (i := 5) (t0 := 1) (ty := .array .int) (v := .ref (G.ad 0 8)) hx hb hX hC (cin rfl) rfl rfl rfl (vin_b rfl) rfl dX4_add_29 ?_
  refine lv_aload_n hx hb dX4_add_30 rfl (lv_at hl 0 rfl) ?_
  refine fg_get (C := RX4) (T := TX4) (N := 9) (ci := 0) (g := 0) (i := 0) (v := .int (d 1)) hx hb hown hts hX hC in_X4 rfl (cin rfl) rfl 4 (by decide) q251 (fun _ h => h) (congrArg (fun z => some (Value.int z)) ((upd_n (j := 1) (by omega)).trans (upd_n (j := 1) (by omega)))) dX4_add_31 ?_
  refine lv_iconst (v := 0) hx hb dX4_add_34 rfl ?_
  refine fg_iast (g := 0) (i := 8) (t0 := 0) hx hb hX hC (cin rfl) rfl rfl hn (cct G (pg (upd (upd (upd d (92 + 4 * (ix (d 1))) kind) (93 + 4 * (ix (d 1))) aim) (94 + 4 * (ix (d 1))) 0) kp as un to sc fd tp sh) sp) (cs_r2 (k := ix (d 1))) dX4_add_35 (fun H locs hC => ?_)
  refine lv_aload_n hx hb dX4_add_36 rfl (lv_at hl 0 rfl) ?_
  refine fg_get (C := RX4) (T := TX4) (N := 9) (ci := 0) (g := 0) (i := 0) (v := .ref (G.ad 0 5)) hx hb hown hts hX hC in_X4 rfl (cin rfl) rfl 5 (by decide) q254 (fun _ h => h) rfl dX4_add_37 ?_
  refine lv_iconst (v := 3) hx hb dX4_add_40 rfl ?_
  refine fg_ald (g := 0) (i := 5) (t0 := 1) (ty := .array .int) (v := .ref (G.ad 0 9)) hx hb hX hC (cin rfl) rfl rfl rfl (vin_b rfl) rfl dX4_add_41 ?_
  refine lv_aload_n hx hb dX4_add_42 rfl (lv_at hl 0 rfl) ?_
  refine fg_get (C := RX4) (T := TX4) (N := 9) (ci := 0) (g := 0) (i := 0) (v := .int (d 1)) hx hb hown hts hX hC in_X4 rfl (cin rfl) rfl 4 (by decide) q251 (fun _ h => h) (congrArg (fun z => some (Value.int z)) ((upd_n (j := 1) (by omega)).trans ((upd_n (j := 1) (by omega)).trans (upd_n (j := 1) (by omega))))) dX4_add_43 ?_
  refine lv_iconst (v := 0) hx hb dX4_add_46 rfl ?_
  refine fg_iast (g := 0) (i := 9) (t0 := 0) hx hb hX hC (cin rfl) rfl rfl hn (cct G (pg (upd (upd (upd (upd d (92 + 4 * (ix (d 1))) kind) (93 + 4 * (ix (d 1))) aim) (94 + 4 * (ix (d 1))) 0) (95 + 4 * (ix (d 1))) 0) kp as un to sc fd tp sh) sp) (cs_r3 (k := ix (d 1))) dX4_add_47 (fun H locs hC => ?_)
  refine lv_aload_n hx hb dX4_add_48 rfl (lv_at hl 0 rfl) ?_
  refine lv_dup hx hb dX4_add_49 rfl ?_
  refine fg_get (C := RX4) (T := TX4) (N := 9) (ci := 0) (g := 0) (i := 0) (v := .int (d 1)) hx hb hown hts hX hC in_X4 rfl (cin rfl) rfl 4 (by decide) q251 (fun _ h => h) (congrArg (fun z => some (Value.int z)) ((upd_n (j := 1) (by omega)).trans ((upd_n (j := 1) (by omega)).trans ((upd_n (j := 1) (by omega)).trans (upd_n (j := 1) (by omega)))))) dX4_add_50 ?_
  refine lv_iconst (v := 1) hx hb dX4_add_53 rfl ?_
  refine lv_iadd hx hb dX4_add_54 ?_
  refine fg_put (C := RX4) (T := TX4) (N := 9) (ci := 0) (g := 0) (i := 0) hx hb hown hts hX hC in_X4 tyX4 tyX4_ok nmX4 rfl (cin rfl) rfl 4 (by decide) q251 (fun _ h => h) rfl rfl rfl (Nat.le_of_ble_eq_true rfl) (cct G (pg (upd (upd (upd (upd (upd d (92 + 4 * (ix (d 1))) kind) (93 + 4 * (ix (d 1))) aim) (94 + 4 * (ix (d 1))) 0) (95 + 4 * (ix (d 1))) 0) 1 ((d 1) + 1)) kp as un to sc fd tp sh) sp) cs_many dX4_add_55 (fun H locs hC => ?_)
  exact fr_v hx hb hr hlocks hX hC () rfl (congrArg (fun z => cct G (pg z kp as un to sc fd tp sh) sp) (rfl)) dX4_add_58
set_option maxRecDepth 100000 in
theorem m_X4_add_4 {l : Launch} {G : Gc} {d kp as un to sc fd tp sh : Row} {sp : Nat → Option Nat} (kind aim : Int32) (hn : vp_in (to 1) 8) : Cm l yX4_add (ws_ yX4_add cX4_add 3 none) ({ frames := 0, cells := 0, slots := 0, locals := 0 }) (cF G) [.ref (G.ad 4 0), .int kind, .int aim] (cct G (pg d kp as un to sc fd tp sh) sp) (fun _ : Unit => none) (fun _ => cct G (pg d kp as un (p_add to kind aim) sc fd tp sh) sp) := by
  refine Cm.start (by decide) (Nat.le_of_ble_eq_true rfl) ?_
  intro p e s m below meth c hf hX hC ls hl
  obtain ⟨hx, hb, hr, hml, hown, hts, hlocks⟩ := hf
  have hl : lv_has ls 3 [(0, .ref (G.ad 4 0)), (1, .int kind), (2, .int aim)] := hl
  have hown : s.vm.findClass "OwlEars$World" = some m.cls := hown
  refine lv_aload_n hx hb dX4_add_0 rfl (lv_at hl 0 rfl) ?_
  refine fg_get (C := RX4) (T := TX4) (N := 9) (ci := 0) (g := 4) (i := 0) (v := .ref (G.ad 4 5)) hx hb hown hts hX hC in_X4 rfl (cin rfl) rfl 5 (by decide) q254 (fun _ h => h) rfl dX4_add_1 ?_
  refine lv_iconst (v := 0) hx hb dX4_add_4 rfl ?_
  refine fg_ald (g := 4) (i := 5) (t0 := 1) (ty := .array .int) (v := .ref (G.ad 4 6)) hx hb hX hC (cin rfl) rfl rfl rfl (vin_b rfl) rfl dX4_add_5 ?_
  refine lv_aload_n hx hb dX4_add_6 rfl (lv_at hl 0 rfl) ?_
  refine fg_get (C := RX4) (T := TX4) (N := 9) (ci := 0) (g := 4) (i := 0) (v := .int (to 1)) hx hb hown hts hX hC in_X4 rfl (cin rfl) rfl 4 (by decide) q251 (fun _ h => h) rfl dX4_add_7 ?_
  refine lv_iload_n hx hb dX4_add_10 rfl (lv_at hl 1 rfl) ?_
  refine fg_iast (g := 4) (i := 6) (t0 := 0) hx hb hX hC (cin rfl) rfl rfl hn (cct G (pg d kp as un (upd to (92 + 4 * (ix (to 1))) kind) sc fd tp sh) sp) (cs4_r0 (k := ix (to 1))) dX4_add_11 (fun H locs hC => ?_)
  refine lv_aload_n hx hb dX4_add_12 rfl (lv_at hl 0 rfl) ?_
  refine fg_get (C := RX4) (T := TX4) (N := 9) (ci := 0) (g := 4) (i := 0) (v := .ref (G.ad 4 5)) hx hb hown hts hX hC in_X4 rfl (cin rfl) rfl 5 (by decide) q254 (fun _ h => h) rfl dX4_add_13 ?_
  refine lv_iconst (v := 1) hx hb dX4_add_16 rfl ?_
  refine fg_ald (g := 4) (i := 5) (t0 := 1) (ty := .array .int) (v := .ref (G.ad 4 7)) hx hb hX hC (cin rfl) rfl rfl rfl (vin_b rfl) rfl dX4_add_17 ?_
  refine lv_aload_n hx hb dX4_add_18 rfl (lv_at hl 0 rfl) ?_
  refine fg_get (C := RX4) (T := TX4) (N := 9) (ci := 0) (g := 4) (i := 0) (v := .int (to 1)) hx hb hown hts hX hC in_X4 rfl (cin rfl) rfl 4 (by decide) q251 (fun _ h => h) (congrArg (fun z => some (Value.int z)) (upd_n (j := 1) (by omega))) dX4_add_19 ?_
  refine lv_iload_n hx hb dX4_add_22 rfl (lv_at hl 2 rfl) ?_
  refine fg_iast (g := 4) (i := 7) (t0 := 0) hx hb hX hC (cin rfl) rfl rfl hn (cct G (pg d kp as un (upd (upd to (92 + 4 * (ix (to 1))) kind) (93 + 4 * (ix (to 1))) aim) sc fd tp sh) sp) (cs4_r1 (k := ix (to 1))) dX4_add_23 (fun H locs hC => ?_)
  refine lv_aload_n hx hb dX4_add_24 rfl (lv_at hl 0 rfl) ?_
  refine fg_get (C := RX4) (T := TX4) (N := 9) (ci := 0) (g := 4) (i := 0) (v := .ref (G.ad 4 5)) hx hb hown hts hX hC in_X4 rfl (cin rfl) rfl 5 (by decide) q254 (fun _ h => h) rfl dX4_add_25 ?_
  refine lv_iconst (v := 2) hx hb dX4_add_28 rfl ?_
  refine fg_ald (g := 4) (i := 5) (t0 := 1) (ty := .array .int) (v := .ref (G.ad 4 8)) hx hb hX hC (cin rfl) rfl rfl rfl (vin_b rfl) rfl dX4_add_29 ?_
  refine lv_aload_n hx hb dX4_add_30 rfl (lv_at hl 0 rfl) ?_
  refine fg_get (C := RX4) (T := TX4) (N := 9) (ci := 0) (g := 4) (i := 0) (v := .int (to 1)) hx hb hown hts hX hC in_X4 rfl (cin rfl) rfl 4 (by decide) q251 (fun _ h => h) (congrArg (fun z => some (Value.int z)) ((upd_n (j := 1) (by omega)).trans (upd_n (j := 1) (by omega)))) dX4_add_31 ?_
  refine lv_iconst (v := 0) hx hb dX4_add_34 rfl ?_
  refine fg_iast (g := 4) (i := 8) (t0 := 0) hx hb hX hC (cin rfl) rfl rfl hn (cct G (pg d kp as un (upd (upd (upd to (92 + 4 * (ix (to 1))) kind) (93 + 4 * (ix (to 1))) aim) (94 + 4 * (ix (to 1))) 0) sc fd tp sh) sp) (cs4_r2 (k := ix (to 1))) dX4_add_35 (fun H locs hC => ?_)
  refine lv_aload_n hx hb dX4_add_36 rfl (lv_at hl 0 rfl) ?_
  refine fg_get (C := RX4) (T := TX4) (N := 9) (ci := 0) (g := 4) (i := 0) (v := .ref (G.ad 4 5)) hx hb hown hts hX hC in_X4 rfl (cin rfl) rfl 5 (by decide) q254 (fun _ h => h) rfl dX4_add_37 ?_
  refine lv_iconst (v := 3) hx hb dX4_add_40 rfl ?_
  refine fg_ald (g := 4) (i := 5) (t0 := 1) (ty := .array .int) (v := .ref (G.ad 4 9)) hx hb hX hC (cin rfl) rfl rfl rfl (vin_b rfl) rfl dX4_add_41 ?_
  refine lv_aload_n hx hb dX4_add_42 rfl (lv_at hl 0 rfl) ?_
  refine fg_get (C := RX4) (T := TX4) (N := 9) (ci := 0) (g := 4) (i := 0) (v := .int (to 1)) hx hb hown hts hX hC in_X4 rfl (cin rfl) rfl 4 (by decide) q251 (fun _ h => h) (congrArg (fun z => some (Value.int z)) ((upd_n (j := 1) (by omega)).trans ((upd_n (j := 1) (by omega)).trans (upd_n (j := 1) (by omega))))) dX4_add_43 ?_
  refine lv_iconst (v := 0) hx hb dX4_add_46 rfl ?_
  refine fg_iast (g := 4) (i := 9) (t0 := 0) hx hb hX hC (cin rfl) rfl rfl hn (cct G (pg d kp as un (upd (upd (upd (upd to (92 + 4 * (ix (to 1))) kind) (93 + 4 * (ix (to 1))) aim) (94 + 4 * (ix (to 1))) 0) (95 + 4 * (ix (to 1))) 0) sc fd tp sh) sp) (cs4_r3 (k := ix (to 1))) dX4_add_47 (fun H locs hC => ?_)
  refine lv_aload_n hx hb dX4_add_48 rfl (lv_at hl 0 rfl) ?_
  refine lv_dup hx hb dX4_add_49 rfl ?_
  refine fg_get (C := RX4) (T := TX4) (N := 9) (ci := 0) (g := 4) (i := 0) (v := .int (to 1)) hx hb hown hts hX hC in_X4 rfl (cin rfl) rfl 4 (by decide) q251 (fun _ h => h) (congrArg (fun z => some (Value.int z)) ((upd_n (j := 1) (by omega)).trans ((upd_n (j := 1) (by omega)).trans ((upd_n (j := 1) (by omega)).trans (upd_n (j := 1) (by omega)))))) dX4_add_50 ?_
  refine lv_iconst (v := 1) hx hb dX4_add_53 rfl ?_
  refine lv_iadd hx hb dX4_add_54 ?_
  refine fg_put (C := RX4) (T := TX4) (N := 9) (ci := 0) (g := 4) (i := 0) hx hb hown hts hX hC in_X4 tyX4 tyX4_ok nmX4 rfl (cin rfl) rfl 4 (by decide) q251 (fun _ h => h) rfl rfl rfl (Nat.le_of_ble_eq_true rfl) (cct G (pg d kp as un (upd (upd (upd (upd (upd to (92 + 4 * (ix (to 1))) kind) (93 + 4 * (ix (to 1))) aim) (94 + 4 * (ix (to 1))) 0) (95 + 4 * (ix (to 1))) 0) 1 ((to 1) + 1)) sc fd tp sh) sp) cs4_many dX4_add_55 (fun H locs hC => ?_)
  exact fr_v hx hb hr hlocks hX hC () rfl (congrArg (fun z => cct G (pg d kp as un z sc fd tp sh) sp) (rfl)) dX4_add_58
