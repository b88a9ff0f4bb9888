theorem hdS_X0_widthOf : yX0_widthOf.cls ≠ "java/lang/invoke/MethodHandle" ∧ yX0_widthOf.cls ≠ "java/lang/invoke/VarHandle" ∧ (parseMethodDescriptor yX0_widthOf.desc).map (fun d => d.parameters.length) = some 1 := by decide +kernel
theorem hdS_X0_slide : yX0_slide.cls ≠ "java/lang/invoke/MethodHandle" ∧ yX0_slide.cls ≠ "java/lang/invoke/VarHandle" ∧ (parseMethodDescriptor yX0_slide.desc).map (fun d => d.parameters.length) = some 5 := by decide +kernel
set_option maxRecDepth 100000 in
theorem m_X0_slide {l : Launch} {G : Gc} {d kp as un to sc fd tp sh : Row} {sp : Nat → Option Nat} (i0 i1 : Nat) (hi0 : i0 < 4) (hi1 : i1 < 4) (hG : GW G) (hF : GF G sh) (hn : ¬ G.sw i0 = 0) (he : G.sw i1 = G.sw i0) (f o n : Int32) (h1 : ¬ f < 0) (h2 : ¬ o < 0) (h3 : ¬ n < 0) (h4 : ix f + ix n ≤ G.sn i0) (h5 : ix o + ix n ≤ G.sn i1) : Cm l yX0_slide (ws_ yX0_slide cX0_slide 5 none) ({ frames := 1, cells := 0, slots := 0, locals := 60 }) (cF G) [.ref (G.ad 10 i0), .int f, .ref (G.ad 10 i1), .int o, .int n] (cct G (pg d kp as un to sc fd tp sh) sp) (fun _ : Unit => none) (fun _ => cct G (pg d kp as un to sc fd tp (p_mv sh (40 * i0 + ix f) (40 * i1 + ix o) (ix n))) sp) := by
  refine Cm.start (by decide) (Nat.le_of_ble_eq_true rfl) ?_
  intro p e s m below meth c hf hX hC ls hl
  obtain ⟨hx, hb, hr, hml, hown, hts, hlocks⟩ := hf
  have hl : lv_has ls 5 [(0, .ref (G.ad 10 i0)), (1, .int f), (2, .ref (G.ad 10 i1)), (3, .int o), (4, .int n)] := hl
  have hown : s.vm.findClass "OwlEars" = some m.cls := hown
  rcases (hG i0 hi0).1 with qw | qw | qw | qw
  · exact absurd qw hn
  · refine lv_aload_n hx hb dX0_slide_0 rfl (lv_at hl 0 rfl) ?_
    refine va_instE hx hb hown (hts _ q1006) (fx_w8 hX hC hi0 qw) dX0_slide_1 ?_
    refine lv_if_eq (tgt := 25) hx hb dX0_slide_4 (by decide) (fun z_1 => absurd z_1 (by decide)) (fun _ => ?_)
    refine lv_aload_n hx hb dX0_slide_7 rfl (lv_at hl 0 rfl) ?_
    refine va_castE hx hb hown (hts _ q1006) (fx_w8 hX hC hi0 qw) dX0_slide_8 ?_
    refine lv_iload_n hx hb dX0_slide_11 rfl (lv_at hl 1 rfl) ?_
    refine lv_aload_n hx hb dX0_slide_12 rfl (lv_at hl 2 rfl) ?_
    refine va_castE hx hb hown (hts _ q1006) (fx_w8 hX hC hi1 (he.trans qw)) dX0_slide_13 ?_
    refine lv_iload_n hx hb dX0_slide_16 rfl (lv_at hl 3 rfl) ?_
    refine lv_iload hx hb dX0_slide_17 (lv_at hl 4 rfl) ?_
    refine fg_copy (g1 := 10) (i1 := i0) (g2 := 10) (i2 := i1) (t1 := 2) (t2 := 2) hx hb (hml.trans hl.1.symm) hown hts q1241 hX hC (cin10 hi0 hn) (c10_8 qw) (cin10 hi1 (by rw [he]; exact hn)) (c10_8 (he.trans qw)) rfl rfl rfl h1 h2 h3 h4 h5 (fun j hj => (hF i0 hi0 (ix f + j) (by omega)).1 qw) (Nat.le_of_ble_eq_true rfl) (by decide) (cct G (pg d kp as un to sc fd tp (p_mv sh (40 * i0 + ix f) (40 * i1 + ix o) (ix n))) sp) (cs_mv hG hi1 h5 (fun _ => c10_8 (he.trans qw))) dX0_slide_19 (fun H locs hC => ?_)
    refine lv_goto (tgt := 65) hx hb dX0_slide_22 (by decide) ?_
    exact fr_v hx hb hr hlocks hX hC () rfl rfl dX0_slide_65
  · refine lv_aload_n hx hb dX0_slide_0 rfl (lv_at hl 0 rfl) ?_
    refine va_instNo (C := "[S") hx hb hown (hts _ q1006) (hX.2.2.1.N nc_SB) (fx_w16 hX hC hi0 qw) dX0_slide_1 ?_
    refine lv_if_eq (tgt := 25) hx hb dX0_slide_4 (by decide) (fun _ => ?_) (fun z_2 => absurd (by decide) z_2)
    refine lv_aload_n hx hb dX0_slide_25 rfl (lv_at hl 0 rfl) ?_
    refine va_instE hx hb hown (hts _ q1007) (fx_w16 hX hC hi0 qw) dX0_slide_26 ?_
    refine lv_if_eq (tgt := 50) hx hb dX0_slide_29 (by decide) (fun z_3 => absurd z_3 (by decide)) (fun _ => ?_)
    refine lv_aload_n hx hb dX0_slide_32 rfl (lv_at hl 0 rfl) ?_
    refine va_castE hx hb hown (hts _ q1007) (fx_w16 hX hC hi0 qw) dX0_slide_33 ?_
    refine lv_iload_n hx hb dX0_slide_36 rfl (lv_at hl 1 rfl) ?_
    refine lv_aload_n hx hb dX0_slide_37 rfl (lv_at hl 2 rfl) ?_
    refine va_castE hx hb hown (hts _ q1007) (fx_w16 hX hC hi1 (he.trans qw)) dX0_slide_38 ?_
    refine lv_iload_n hx hb dX0_slide_41 rfl (lv_at hl 3 rfl) ?_
    refine lv_iload hx hb dX0_slide_42 (lv_at hl 4 rfl) ?_
    refine fg_copy (g1 := 10) (i1 := i0) (g2 := 10) (i2 := i1) (t1 := 4) (t2 := 4) hx hb (hml.trans hl.1.symm) hown hts q1241 hX hC (cin10 hi0 hn) (c10_16 qw) (cin10 hi1 (by rw [he]; exact hn)) (c10_16 (he.trans qw)) rfl rfl rfl h1 h2 h3 h4 h5 (fun j hj => (hF i0 hi0 (ix f + j) (by omega)).2 qw) (Nat.le_of_ble_eq_true rfl) (by decide) (cct G (pg d kp as un to sc fd tp (p_mv sh (40 * i0 + ix f) (40 * i1 + ix o) (ix n))) sp) (cs_mv hG hi1 h5 (fun _ => c10_16 (he.trans qw))) dX0_slide_44 (fun H locs hC => ?_)
    refine lv_goto (tgt := 65) hx hb dX0_slide_47 (by decide) ?_
    exact fr_v hx hb hr hlocks hX hC () rfl rfl dX0_slide_65
  · refine lv_aload_n hx hb dX0_slide_0 rfl (lv_at hl 0 rfl) ?_
    refine va_instNo (C := "[I") hx hb hown (hts _ q1006) (hX.2.2.1.N nc_IB) (fx_w32 hX hC hi0 qw) dX0_slide_1 ?_
    refine lv_if_eq (tgt := 25) hx hb dX0_slide_4 (by decide) (fun _ => ?_) (fun z_4 => absurd (by decide) z_4)
    refine lv_aload_n hx hb dX0_slide_25 rfl (lv_at hl 0 rfl) ?_
    refine va_instNo (C := "[I") hx hb hown (hts _ q1007) (hX.2.2.1.N nc_IS) (fx_w32 hX hC hi0 qw) dX0_slide_26 ?_
    refine lv_if_eq (tgt := 50) hx hb dX0_slide_29 (by decide) (fun _ => ?_) (fun z_5 => absurd (by decide) z_5)
    refine lv_aload_n hx hb dX0_slide_50 rfl (lv_at hl 0 rfl) ?_
    refine va_castE hx hb hown (hts _ q1008) (fx_w32 hX hC hi0 qw) dX0_slide_51 ?_
    refine lv_iload_n hx hb dX0_slide_54 rfl (lv_at hl 1 rfl) ?_
    refine lv_aload_n hx hb dX0_slide_55 rfl (lv_at hl 2 rfl) ?_
    refine va_castE hx hb hown (hts _ q1008) (fx_w32 hX hC hi1 (he.trans qw)) dX0_slide_56 ?_
    refine lv_iload_n hx hb dX0_slide_59 rfl (lv_at hl 3 rfl) ?_
    refine lv_iload hx hb dX0_slide_60 (lv_at hl 4 rfl) ?_
    refine fg_copy (g1 := 10) (i1 := i0) (g2 := 10) (i2 := i1) (t1 := 0) (t2 := 0) hx hb (hml.trans hl.1.symm) hown hts q1241 hX hC (cin10 hi0 hn) (c10_32 qw) (cin10 hi1 (by rw [he]; exact hn)) (c10_32 (he.trans qw)) rfl rfl rfl h1 h2 h3 h4 h5 (fun j _ => fit_int _) (Nat.le_of_ble_eq_true rfl) (by decide) (cct G (pg d kp as un to sc fd tp (p_mv sh (40 * i0 + ix f) (40 * i1 + ix o) (ix n))) sp) (cs_mv hG hi1 h5 (fun _ => c10_32 (he.trans qw))) dX0_slide_62 (fun H locs hC => ?_)
    exact fr_v hx hb hr hlocks hX hC () rfl rfl dX0_slide_65
set_option maxRecDepth 100000 in
theorem m_X0_copy {l : Launch} {G : Gc} {d kp as un to sc fd tp sh : Row} {sp : Nat → Option Nat} (s0 f t o n : Int32) (hG : GW G) (hF : GF G sh) : Cm l yX0_copy (wsW_ yX0_copy cX0_copy 8 (some .int) [(0, 120, 121, 54)]) ({ frames := 3, cells := 0, slots := 0, locals := 84 }) (cF G) [.ref (G.ad 5 0), .int s0, .int f, .int t, .int o, .int n] (cct G (pg d kp as un to sc fd tp sh) sp) (fun u : Int32 => some (.int ((s_copy fd (swr G) (snr G) sh s0 f t o n).1))) (fun u => cct G (pg d kp as un to (upd sc 3 u) ((s_copy fd (swr G) (snr G) sh s0 f t o n).2.2) tp ((s_copy fd (swr G) (snr G) sh s0 f t o n).2.1)) sp) := by
  refine Cm.startH (by decide) (Nat.le_of_ble_eq_true rfl) ?_
  intro p e s m below meth c hf hE hX hC ls hl
  obtain ⟨hx, hb, hr, hml, hown, hts, hlocks⟩ := hf
  have hl : lv_has ls 8 [(0, .ref (G.ad 5 0)), (1, .int s0), (2, .int f), (3, .int t), (4, .int o), (5, .int n)] := hl
  have hown : s.vm.findClass "OwlEars" = some m.cls := hown
  by_cases hs : p_in s0 0 3
  · by_cases hn : G.sw (ix s0) = 0
    · by_cases ht : p_in t 0 3
      · by_cases hm : G.sw (ix t) = 0
        · refine lv_aload_n hx hb dX0_copy_0 rfl (lv_at hl 0 rfl) ?_
          refine lv_iload_n hx hb dX0_copy_1 rfl (lv_at hl 1 rfl) ?_
          refine fc_V (As := [.int s0]) (rest := []) hx hb hml hown hts hX hC (m_X0_rowAt_0 s0 hs hn) (lw_V q984 q986 qs30 q108 q987) hdV_X0_rowAt ⟨rfl, rfl⟩ ⟨Nat.le_of_ble_eq_true rfl, Nat.le_of_ble_eq_true rfl⟩ (fx_recv (g := 5) (i := 0) (ci := 1) (q := (RX0, TX0, 13)) hX hC (cin rfl) rfl rfl) hl.1 rfl (Nat.le_of_ble_eq_true rfl) ⟨Nat.zero_le _, Nat.zero_le _⟩ dX0_copy_2 (fun _ H locs hC => ?_)
          refine W.eq (g2 := F0 m 5 ls [.null]) rfl ?_
          refine lv_astoreN (lv' := [(6, .null), (0, .ref (G.ad 5 0)), (1, .int s0), (2, .int f), (3, .int t), (4, .int o), (5, .int n)]) hx hb dX0_copy_5 hl (by decide) rfl (fun ls hl => ?_)
          refine lv_aload_n hx hb dX0_copy_7 rfl (lv_at hl 1 rfl) ?_
          refine lv_iload_n hx hb dX0_copy_8 rfl (lv_at hl 4 rfl) ?_
          refine fc_V (As := [.int t]) (rest := []) hx hb hml hown hts hX hC (m_X0_rowAt_0 t ht hm) (lw_V q984 q986 qs30 q108 q987) hdV_X0_rowAt ⟨rfl, rfl⟩ ⟨Nat.le_of_ble_eq_true rfl, Nat.le_of_ble_eq_true rfl⟩ (fx_recv (g := 5) (i := 0) (ci := 1) (q := (RX0, TX0, 13)) hX hC (cin rfl) rfl rfl) hl.1 rfl (Nat.le_of_ble_eq_true rfl) ⟨Nat.zero_le _, Nat.zero_le _⟩ dX0_copy_9 (fun _ H locs hC => ?_)
          refine W.eq (g2 := F0 m 12 ls [.null]) rfl ?_
          refine lv_astoreN (lv' := [(7, .null), (6, .null), (0, .ref (G.ad 5 0)), (1, .int s0), (2, .int f), (3, .int t), (4, .int o), (5, .int n)]) hx hb dX0_copy_12 hl (by decide) rfl (fun ls hl => ?_)
          refine lv_aload_n hx hb dX0_copy_14 rfl (lv_at hl 2 rfl) ?_
          refine lv_aloadN hx hb dX0_copy_15 (lv_at hl 1 rfl) ?_
          refine lv_ifnullN (tgt := 29) hx hb dX0_copy_17 (by decide) ?_
          refine lv_iconst (v := 0) hx hb dX0_copy_29 rfl ?_
          refine lv_iconst (v := 5) hx hb dX0_copy_30 rfl ?_
          refine fc_VT (As := [.int 0, .int 5]) (rest := []) hx hb hml hown hts hX hC (m_X0_need_0 5) (lw_V q991 q993 qs31 q108 q994) hdV_X0_need ⟨rfl, rfl⟩ ⟨Nat.le_of_ble_eq_true rfl, Nat.le_of_ble_eq_true rfl⟩ (fx_recv (g := 5) (i := 0) (ci := 1) (q := (RX0, TX0, 13)) hX hC (cin rfl) rfl rfl) hl.1 rfl (Nat.le_of_ble_eq_true rfl) ⟨Nat.zero_le _, Nat.zero_le _⟩ dX0_copy_31 (fun _ H locs hC => ?_)
          refine fx_catch (own := "OwlEars") (name := "OwlEars$Refusal") hown (hts _ q141) hE (by decide) (by decide) (by decide) (fx_recv (g := 5) (i := 1) (ci := 2) (q := (RX1, TX1, 7)) hX hC (cin rfl) rfl rfl) ?_
          refine lv_astore (lv' := [(6, .ref (G.ad 5 1)), (7, .null), (0, .ref (G.ad 5 0)), (1, .int s0), (2, .int f), (3, .int t), (4, .int o), (5, .int n)]) hx hb dX0_copy_121 hl (by decide) rfl (fun ls hl => ?_)
          refine lv_aload_n hx hb dX0_copy_123 rfl (lv_at hl 2 rfl) ?_
          refine lv_aload hx hb dX0_copy_124 (lv_at hl 0 rfl) ?_
          refine fg_getN (C := RX1) (T := TX1) (N := 7) (ci := 2) (g := 5) (i := 1) (v := .int 5) hx hb hown hts hX hC in_X1 rfl (cin rfl) rfl 6 (by decide) (hX.2.2.1.F q193) (fun _ h => h) rfl dX0_copy_126 ?_
          refine fc_V (As := [.int 5]) (rest := []) hx hb hml hown hts hX hC (m_X0_finding 5 (vin_b rfl)) (lw_V q472 q474 qs2 q108 q475) hdV_X0_finding ⟨rfl, rfl⟩ ⟨Nat.le_of_ble_eq_true rfl, Nat.le_of_ble_eq_true rfl⟩ (fx_recv (g := 5) (i := 0) (ci := 1) (q := (RX0, TX0, 13)) hX hC (cin rfl) rfl rfl) hl.1 rfl (Nat.le_of_ble_eq_true rfl) ⟨Nat.zero_le _, Nat.zero_le _⟩ dX0_copy_129 (fun _ H locs hC => ?_)
          refine W.eq (g2 := F0 m 132 ls [.int (-1000006)]) rfl ?_
          have hs : s_copy fd (swr G) (snr G) sh s0 f t o n = (((-1000006), sh, p_find fd 5) : Int32 × Row × Row) := by rw [s_copy, if_pos ⟨hs, ht⟩, if_pos (Or.inl (swr_0 hn))]
          exact fr_i hx hb hr hlocks hX hC 5 (congrArg (fun z => some (Value.int z)) (t3_1 hs)) ((congrArg (fun z => cct G (pg d kp as un to (upd sc 3 5) ((s_copy fd (swr G) (snr G) sh s0 f t o n).2.2) tp z) sp) (t3_2 hs)).trans (congrArg (fun z => cct G (pg d kp as un to (upd sc 3 5) z tp sh) sp) (t3_3 hs))).symm dX0_copy_132
        · refine lv_aload_n hx hb dX0_copy_0 rfl (lv_at hl 0 rfl) ?_
          refine lv_iload_n hx hb dX0_copy_1 rfl (lv_at hl 1 rfl) ?_
          refine fc_V (As := [.int s0]) (rest := []) hx hb hml hown hts hX hC (m_X0_rowAt_0 s0 hs hn) (lw_V q984 q986 qs30 q108 q987) hdV_X0_rowAt ⟨rfl, rfl⟩ ⟨Nat.le_of_ble_eq_true rfl, Nat.le_of_ble_eq_true rfl⟩ (fx_recv (g := 5) (i := 0) (ci := 1) (q := (RX0, TX0, 13)) hX hC (cin rfl) rfl rfl) hl.1 rfl (Nat.le_of_ble_eq_true rfl) ⟨Nat.zero_le _, Nat.zero_le _⟩ dX0_copy_2 (fun _ H locs hC => ?_)
          refine W.eq (g2 := F0 m 5 ls [.null]) rfl ?_
          refine lv_astoreN (lv' := [(6, .null), (0, .ref (G.ad 5 0)), (1, .int s0), (2, .int f), (3, .int t), (4, .int o), (5, .int n)]) hx hb dX0_copy_5 hl (by decide) rfl (fun ls hl => ?_)
          refine lv_aload_n hx hb dX0_copy_7 rfl (lv_at hl 1 rfl) ?_
          refine lv_iload_n hx hb dX0_copy_8 rfl (lv_at hl 4 rfl) ?_
          refine fc_V (As := [.int t]) (rest := []) hx hb hml hown hts hX hC (m_X0_rowAt_n t ht hm) (lw_V q984 q986 qs30 q108 q987) hdV_X0_rowAt ⟨rfl, rfl⟩ ⟨Nat.le_of_ble_eq_true rfl, Nat.le_of_ble_eq_true rfl⟩ (fx_recv (g := 5) (i := 0) (ci := 1) (q := (RX0, TX0, 13)) hX hC (cin rfl) rfl rfl) hl.1 rfl (Nat.le_of_ble_eq_true rfl) ⟨Nat.zero_le _, Nat.zero_le _⟩ dX0_copy_9 (fun _ H locs hC => ?_)
          refine W.eq (g2 := F0 m 12 ls [.ref (G.ad 10 (ix t))]) rfl ?_
          refine lv_astore (lv' := [(7, .ref (G.ad 10 (ix t))), (6, .null), (0, .ref (G.ad 5 0)), (1, .int s0), (2, .int f), (3, .int t), (4, .int o), (5, .int n)]) hx hb dX0_copy_12 hl (by decide) rfl (fun ls hl => ?_)
          refine lv_aload_n hx hb dX0_copy_14 rfl (lv_at hl 2 rfl) ?_
          refine lv_aloadN hx hb dX0_copy_15 (lv_at hl 1 rfl) ?_
          refine lv_ifnullN (tgt := 29) hx hb dX0_copy_17 (by decide) ?_
          refine lv_iconst (v := 0) hx hb dX0_copy_29 rfl ?_
          refine lv_iconst (v := 5) hx hb dX0_copy_30 rfl ?_
          refine fc_VT (As := [.int 0, .int 5]) (rest := []) hx hb hml hown hts hX hC (m_X0_need_0 5) (lw_V q991 q993 qs31 q108 q994) hdV_X0_need ⟨rfl, rfl⟩ ⟨Nat.le_of_ble_eq_true rfl, Nat.le_of_ble_eq_true rfl⟩ (fx_recv (g := 5) (i := 0) (ci := 1) (q := (RX0, TX0, 13)) hX hC (cin rfl) rfl rfl) hl.1 rfl (Nat.le_of_ble_eq_true rfl) ⟨Nat.zero_le _, Nat.zero_le _⟩ dX0_copy_31 (fun _ H locs hC => ?_)
          refine fx_catch (own := "OwlEars") (name := "OwlEars$Refusal") hown (hts _ q141) hE (by decide) (by decide) (by decide) (fx_recv (g := 5) (i := 1) (ci := 2) (q := (RX1, TX1, 7)) hX hC (cin rfl) rfl rfl) ?_
          refine lv_astore (lv' := [(6, .ref (G.ad 5 1)), (7, .ref (G.ad 10 (ix t))), (0, .ref (G.ad 5 0)), (1, .int s0), (2, .int f), (3, .int t), (4, .int o), (5, .int n)]) hx hb dX0_copy_121 hl (by decide) rfl (fun ls hl => ?_)
          refine lv_aload_n hx hb dX0_copy_123 rfl (lv_at hl 2 rfl) ?_
          refine lv_aload hx hb dX0_copy_124 (lv_at hl 0 rfl) ?_
          refine fg_getN (C := RX1) (T := TX1) (N := 7) (ci := 2) (g := 5) (i := 1) (v := .int 5) hx hb hown hts hX hC in_X1 rfl (cin rfl) rfl 6 (by decide) (hX.2.2.1.F q193) (fun _ h => h) rfl dX0_copy_126 ?_
          refine fc_V (As := [.int 5]) (rest := []) hx hb hml hown hts hX hC (m_X0_finding 5 (vin_b rfl)) (lw_V q472 q474 qs2 q108 q475) hdV_X0_finding ⟨rfl, rfl⟩ ⟨Nat.le_of_ble_eq_true rfl, Nat.le_of_ble_eq_true rfl⟩ (fx_recv (g := 5) (i := 0) (ci := 1) (q := (RX0, TX0, 13)) hX hC (cin rfl) rfl rfl) hl.1 rfl (Nat.le_of_ble_eq_true rfl) ⟨Nat.zero_le _, Nat.zero_le _⟩ dX0_copy_129 (fun _ H locs hC => ?_)
          refine W.eq (g2 := F0 m 132 ls [.int (-1000006)]) rfl ?_
          have hs : s_copy fd (swr G) (snr G) sh s0 f t o n = (((-1000006), sh, p_find fd 5) : Int32 × Row × Row) := by rw [s_copy, if_pos ⟨hs, ht⟩, if_pos (Or.inl (swr_0 hn))]
          exact fr_i hx hb hr hlocks hX hC 5 (congrArg (fun z => some (Value.int z)) (t3_1 hs)) ((congrArg (fun z => cct G (pg d kp as un to (upd sc 3 5) ((s_copy fd (swr G) (snr G) sh s0 f t o n).2.2) tp z) sp) (t3_2 hs)).trans (congrArg (fun z => cct G (pg d kp as un to (upd sc 3 5) z tp sh) sp) (t3_3 hs))).symm dX0_copy_132
      · refine lv_aload_n hx hb dX0_copy_0 rfl (lv_at hl 0 rfl) ?_
        refine lv_iload_n hx hb dX0_copy_1 rfl (lv_at hl 1 rfl) ?_
        refine fc_V (As := [.int s0]) (rest := []) hx hb hml hown hts hX hC (m_X0_rowAt_0 s0 hs hn) (lw_V q984 q986 qs30 q108 q987) hdV_X0_rowAt ⟨rfl, rfl⟩ ⟨Nat.le_of_ble_eq_true rfl, Nat.le_of_ble_eq_true rfl⟩ (fx_recv (g := 5) (i := 0) (ci := 1) (q := (RX0, TX0, 13)) hX hC (cin rfl) rfl rfl) hl.1 rfl (Nat.le_of_ble_eq_true rfl) ⟨Nat.zero_le _, Nat.zero_le _⟩ dX0_copy_2 (fun _ H locs hC => ?_)
        refine W.eq (g2 := F0 m 5 ls [.null]) rfl ?_
        refine lv_astoreN (lv' := [(6, .null), (0, .ref (G.ad 5 0)), (1, .int s0), (2, .int f), (3, .int t), (4, .int o), (5, .int n)]) hx hb dX0_copy_5 hl (by decide) rfl (fun ls hl => ?_)
        refine lv_aload_n hx hb dX0_copy_7 rfl (lv_at hl 1 rfl) ?_
        refine lv_iload_n hx hb dX0_copy_8 rfl (lv_at hl 4 rfl) ?_
        refine fc_VT (As := [.int t]) (rest := []) hx hb hml hown hts hX hC (m_X0_rowAt_t t ht) (lw_V q984 q986 qs30 q108 q987) hdV_X0_rowAt ⟨rfl, rfl⟩ ⟨Nat.le_of_ble_eq_true rfl, Nat.le_of_ble_eq_true rfl⟩ (fx_recv (g := 5) (i := 0) (ci := 1) (q := (RX0, TX0, 13)) hX hC (cin rfl) rfl rfl) hl.1 rfl (Nat.le_of_ble_eq_true rfl) ⟨Nat.zero_le _, Nat.zero_le _⟩ dX0_copy_9 (fun _ H locs hC => ?_)
        refine fx_catch (own := "OwlEars") (name := "OwlEars$Refusal") hown (hts _ q141) hE (by decide) (by decide) (by decide) (fx_recv (g := 5) (i := 1) (ci := 2) (q := (RX1, TX1, 7)) hX hC (cin rfl) rfl rfl) ?_
        refine lv_astore (lv' := [(6, .ref (G.ad 5 1)), (0, .ref (G.ad 5 0)), (1, .int s0), (2, .int f), (3, .int t), (4, .int o), (5, .int n)]) hx hb dX0_copy_121 hl (by decide) rfl (fun ls hl => ?_)
        refine lv_aload_n hx hb dX0_copy_123 rfl (lv_at hl 1 rfl) ?_
        refine lv_aload hx hb dX0_copy_124 (lv_at hl 0 rfl) ?_
        refine fg_getN (C := RX1) (T := TX1) (N := 7) (ci := 2) (g := 5) (i := 1) (v := .int 0) hx hb hown hts hX hC in_X1 rfl (cin rfl) rfl 6 (by decide) (hX.2.2.1.F q193) (fun _ h => h) rfl dX0_copy_126 ?_
        refine fc_V (As := [.int 0]) (rest := []) hx hb hml hown hts hX hC (m_X0_finding 0 (vin_b rfl)) (lw_V q472 q474 qs2 q108 q475) hdV_X0_finding ⟨rfl, rfl⟩ ⟨Nat.le_of_ble_eq_true rfl, Nat.le_of_ble_eq_true rfl⟩ (fx_recv (g := 5) (i := 0) (ci := 1) (q := (RX0, TX0, 13)) hX hC (cin rfl) rfl rfl) hl.1 rfl (Nat.le_of_ble_eq_true rfl) ⟨Nat.zero_le _, Nat.zero_le _⟩ dX0_copy_129 (fun _ H locs hC => ?_)
        refine W.eq (g2 := F0 m 132 ls [.int (-1000001)]) rfl ?_
        have hs : s_copy fd (swr G) (snr G) sh s0 f t o n = (((-1000001), sh, p_find fd 0) : Int32 × Row × Row) := by rw [s_copy, if_neg (fun z => ht z.2)]
        exact fr_i hx hb hr hlocks hX hC 0 (congrArg (fun z => some (Value.int z)) (t3_1 hs)) ((congrArg (fun z => cct G (pg d kp as un to (upd sc 3 0) ((s_copy fd (swr G) (snr G) sh s0 f t o n).2.2) tp z) sp) (t3_2 hs)).trans (congrArg (fun z => cct G (pg d kp as un to (upd sc 3 0) z tp sh) sp) (t3_3 hs))).symm dX0_copy_132
    · by_cases ht : p_in t 0 3
      · by_cases hm : G.sw (ix t) = 0
        · refine lv_aload_n hx hb dX0_copy_0 rfl (lv_at hl 0 rfl) ?_
          refine lv_iload_n hx hb dX0_copy_1 rfl (lv_at hl 1 rfl) ?_
          refine fc_V (As := [.int s0]) (rest := []) hx hb hml hown hts hX hC (m_X0_rowAt_n s0 hs hn) (lw_V q984 q986 qs30 q108 q987) hdV_X0_rowAt ⟨rfl, rfl⟩ ⟨Nat.le_of_ble_eq_true rfl, Nat.le_of_ble_eq_true rfl⟩ (fx_recv (g := 5) (i := 0) (ci := 1) (q := (RX0, TX0, 13)) hX hC (cin rfl) rfl rfl) hl.1 rfl (Nat.le_of_ble_eq_true rfl) ⟨Nat.zero_le _, Nat.zero_le _⟩ dX0_copy_2 (fun _ H locs hC => ?_)
          refine W.eq (g2 := F0 m 5 ls [.ref (G.ad 10 (ix s0))]) rfl ?_
          refine lv_astore (lv' := [(6, .ref (G.ad 10 (ix s0))), (0, .ref (G.ad 5 0)), (1, .int s0), (2, .int f), (3, .int t), (4, .int o), (5, .int n)]) hx hb dX0_copy_5 hl (by decide) rfl (fun ls hl => ?_)
          refine lv_aload_n hx hb dX0_copy_7 rfl (lv_at hl 1 rfl) ?_
          refine lv_iload_n hx hb dX0_copy_8 rfl (lv_at hl 4 rfl) ?_
          refine fc_V (As := [.int t]) (rest := []) hx hb hml hown hts hX hC (m_X0_rowAt_0 t ht hm) (lw_V q984 q986 qs30 q108 q987) hdV_X0_rowAt ⟨rfl, rfl⟩ ⟨Nat.le_of_ble_eq_true rfl, Nat.le_of_ble_eq_true rfl⟩ (fx_recv (g := 5) (i := 0) (ci := 1) (q := (RX0, TX0, 13)) hX hC (cin rfl) rfl rfl) hl.1 rfl (Nat.le_of_ble_eq_true rfl) ⟨Nat.zero_le _, Nat.zero_le _⟩ dX0_copy_9 (fun _ H locs hC => ?_)
          refine W.eq (g2 := F0 m 12 ls [.null]) rfl ?_
          refine lv_astoreN (lv' := [(7, .null), (6, .ref (G.ad 10 (ix s0))), (0, .ref (G.ad 5 0)), (1, .int s0), (2, .int f), (3, .int t), (4, .int o), (5, .int n)]) hx hb dX0_copy_12 hl (by decide) rfl (fun ls hl => ?_)
          refine lv_aload_n hx hb dX0_copy_14 rfl (lv_at hl 2 rfl) ?_
          refine lv_aload hx hb dX0_copy_15 (lv_at hl 1 rfl) ?_
          refine lv_ifnull hx hb dX0_copy_17 ?_
          refine lv_aloadN hx hb dX0_copy_20 (lv_at hl 0 rfl) ?_
          refine lv_ifnullN (tgt := 29) hx hb dX0_copy_22 (by decide) ?_
          refine lv_iconst (v := 0) hx hb dX0_copy_29 rfl ?_
          refine lv_iconst (v := 5) hx hb dX0_copy_30 rfl ?_
          refine fc_VT (As := [.int 0, .int 5]) (rest := []) hx hb hml hown hts hX hC (m_X0_need_0 5) (lw_V q991 q993 qs31 q108 q994) hdV_X0_need ⟨rfl, rfl⟩ ⟨Nat.le_of_ble_eq_true rfl, Nat.le_of_ble_eq_true rfl⟩ (fx_recv (g := 5) (i := 0) (ci := 1) (q := (RX0, TX0, 13)) hX hC (cin rfl) rfl rfl) hl.1 rfl (Nat.le_of_ble_eq_true rfl) ⟨Nat.zero_le _, Nat.zero_le _⟩ dX0_copy_31 (fun _ H locs hC => ?_)
          refine fx_catch (own := "OwlEars") (name := "OwlEars$Refusal") hown (hts _ q141) hE (by decide) (by decide) (by decide) (fx_recv (g := 5) (i := 1) (ci := 2) (q := (RX1, TX1, 7)) hX hC (cin rfl) rfl rfl) ?_
          refine lv_astore (lv' := [(6, .ref (G.ad 5 1)), (7, .null), (0, .ref (G.ad 5 0)), (1, .int s0), (2, .int f), (3, .int t), (4, .int o), (5, .int n)]) hx hb dX0_copy_121 hl (by decide) rfl (fun ls hl => ?_)
          refine lv_aload_n hx hb dX0_copy_123 rfl (lv_at hl 2 rfl) ?_
          refine lv_aload hx hb dX0_copy_124 (lv_at hl 0 rfl) ?_
          refine fg_getN (C := RX1) (T := TX1) (N := 7) (ci := 2) (g := 5) (i := 1) (v := .int 5) hx hb hown hts hX hC in_X1 rfl (cin rfl) rfl 6 (by decide) (hX.2.2.1.F q193) (fun _ h => h) rfl dX0_copy_126 ?_
          refine fc_V (As := [.int 5]) (rest := []) hx hb hml hown hts hX hC (m_X0_finding 5 (vin_b rfl)) (lw_V q472 q474 qs2 q108 q475) hdV_X0_finding ⟨rfl, rfl⟩ ⟨Nat.le_of_ble_eq_true rfl, Nat.le_of_ble_eq_true rfl⟩ (fx_recv (g := 5) (i := 0) (ci := 1) (q := (RX0, TX0, 13)) hX hC (cin rfl) rfl rfl) hl.1 rfl (Nat.le_of_ble_eq_true rfl) ⟨Nat.zero_le _, Nat.zero_le _⟩ dX0_copy_129 (fun _ H locs hC => ?_)
          refine W.eq (g2 := F0 m 132 ls [.int (-1000006)]) rfl ?_
          have hs : s_copy fd (swr G) (snr G) sh s0 f t o n = (((-1000006), sh, p_find fd 5) : Int32 × Row × Row) := by rw [s_copy, if_pos ⟨hs, ht⟩, if_pos (Or.inr (swr_0 hm))]
          exact fr_i hx hb hr hlocks hX hC 5 (congrArg (fun z => some (Value.int z)) (t3_1 hs)) ((congrArg (fun z => cct G (pg d kp as un to (upd sc 3 5) ((s_copy fd (swr G) (snr G) sh s0 f t o n).2.2) tp z) sp) (t3_2 hs)).trans (congrArg (fun z => cct G (pg d kp as un to (upd sc 3 5) z tp sh) sp) (t3_3 hs))).symm dX0_copy_132
        · refine lv_aload_n hx hb dX0_copy_0 rfl (lv_at hl 0 rfl) ?_
          refine lv_iload_n hx hb dX0_copy_1 rfl (lv_at hl 1 rfl) ?_
          refine fc_V (As := [.int s0]) (rest := []) hx hb hml hown hts hX hC (m_X0_rowAt_n s0 hs hn) (lw_V q984 q986 qs30 q108 q987) hdV_X0_rowAt ⟨rfl, rfl⟩ ⟨Nat.le_of_ble_eq_true rfl, Nat.le_of_ble_eq_true rfl⟩ (fx_recv (g := 5) (i := 0) (ci := 1) (q := (RX0, TX0, 13)) hX hC (cin rfl) rfl rfl) hl.1 rfl (Nat.le_of_ble_eq_true rfl) ⟨Nat.zero_le _, Nat.zero_le _⟩ dX0_copy_2 (fun _ H locs hC => ?_)
          refine W.eq (g2 := F0 m 5 ls [.ref (G.ad 10 (ix s0))]) rfl ?_
          refine lv_astore (lv' := [(6, .ref (G.ad 10 (ix s0))), (0, .ref (G.ad 5 0)), (1, .int s0), (2, .int f), (3, .int t), (4, .int o), (5, .int n)]) hx hb dX0_copy_5 hl (by decide) rfl (fun ls hl => ?_)
          refine lv_aload_n hx hb dX0_copy_7 rfl (lv_at hl 1 rfl) ?_
          refine lv_iload_n hx hb dX0_copy_8 rfl (lv_at hl 4 rfl) ?_
          refine fc_V (As := [.int t]) (rest := []) hx hb hml hown hts hX hC (m_X0_rowAt_n t ht hm) (lw_V q984 q986 qs30 q108 q987) hdV_X0_rowAt ⟨rfl, rfl⟩ ⟨Nat.le_of_ble_eq_true rfl, Nat.le_of_ble_eq_true rfl⟩ (fx_recv (g := 5) (i := 0) (ci := 1) (q := (RX0, TX0, 13)) hX hC (cin rfl) rfl rfl) hl.1 rfl (Nat.le_of_ble_eq_true rfl) ⟨Nat.zero_le _, Nat.zero_le _⟩ dX0_copy_9 (fun _ H locs hC => ?_)
          refine W.eq (g2 := F0 m 12 ls [.ref (G.ad 10 (ix t))]) rfl ?_
          refine lv_astore (lv' := [(7, .ref (G.ad 10 (ix t))), (6, .ref (G.ad 10 (ix s0))), (0, .ref (G.ad 5 0)), (1, .int s0), (2, .int f), (3, .int t), (4, .int o), (5, .int n)]) hx hb dX0_copy_12 hl (by decide) rfl (fun ls hl => ?_)
          refine lv_aload_n hx hb dX0_copy_14 rfl (lv_at hl 2 rfl) ?_
          refine lv_aload hx hb dX0_copy_15 (lv_at hl 1 rfl) ?_
          refine lv_ifnull hx hb dX0_copy_17 ?_
          refine lv_aload hx hb dX0_copy_20 (lv_at hl 0 rfl) ?_
          refine lv_ifnull hx hb dX0_copy_22 ?_
          refine lv_iconst (v := 1) hx hb dX0_copy_25 rfl ?_
          refine lv_goto (tgt := 30) hx hb dX0_copy_26 (by decide) ?_
          refine lv_iconst (v := 5) hx hb dX0_copy_30 rfl ?_
          refine fc_V (As := [.int 1, .int 5]) (rest := []) hx hb hml hown hts hX hC (m_X0_need_1 5) (lw_V q991 q993 qs31 q108 q994) hdV_X0_need ⟨rfl, rfl⟩ ⟨Nat.le_of_ble_eq_true rfl, Nat.le_of_ble_eq_true rfl⟩ (fx_recv (g := 5) (i := 0) (ci := 1) (q := (RX0, TX0, 13)) hX hC (cin rfl) rfl rfl) hl.1 rfl (Nat.le_of_ble_eq_true rfl) ⟨Nat.zero_le _, Nat.zero_le _⟩ dX0_copy_31 (fun _ H locs hC => ?_)
          refine W.eq (g2 := F0 m 34 ls []) rfl ?_
          refine lv_aload_n hx hb dX0_copy_34 rfl (lv_at hl 2 rfl) ?_
          refine lv_aload hx hb dX0_copy_35 (lv_at hl 1 rfl) ?_
          refine fc_S (As := [.ref (G.ad 10 (ix s0))]) (rest := [.ref (G.ad 5 0)]) hx hb hml hown hts hX hC (m_X0_widthOf (ix s0) (vin_lt (vin_of hs 4 (by decide))) hG hn) (lw_S q1235 q1236 q108 q1237) hdS_X0_widthOf ⟨rfl, rfl⟩ ⟨Nat.le_of_ble_eq_true rfl, Nat.le_of_ble_eq_true rfl⟩ hl.1 rfl (Nat.le_of_ble_eq_true rfl) ⟨Nat.zero_le _, Nat.zero_le _⟩ dX0_copy_37 (fun _ H locs hC => ?_)
          refine W.eq (g2 := F0 m 40 ls [.int (nI ((G.sw (ix s0)))), .ref (G.ad 5 0)]) rfl ?_
          refine lv_aload hx hb dX0_copy_40 (lv_at hl 0 rfl) ?_
          refine fc_S (As := [.ref (G.ad 10 (ix t))]) (rest := [.int (nI ((G.sw (ix s0)))), .ref (G.ad 5 0)]) hx hb hml hown hts hX hC (m_X0_widthOf (ix t) (vin_lt (vin_of ht 4 (by decide))) hG hm) (lw_S q1235 q1236 q108 q1237) hdS_X0_widthOf ⟨rfl, rfl⟩ ⟨Nat.le_of_ble_eq_true rfl, Nat.le_of_ble_eq_true rfl⟩ hl.1 rfl (Nat.le_of_ble_eq_true rfl) ⟨Nat.zero_le _, Nat.zero_le _⟩ dX0_copy_42 (fun _ H locs hC => ?_)
          refine W.eq (g2 := F0 m 45 ls [.int (nI ((G.sw (ix t)))), .int (nI ((G.sw (ix s0)))), .ref (G.ad 5 0)]) rfl ?_
          refine lv_icmp_ne (tgt := 52) hx hb dX0_copy_45 (by decide) (fun c_21 => ?_) (fun c_21 => ?_)
          · refine lv_iconst (v := 0) hx hb dX0_copy_52 rfl ?_
            refine lv_iconst (v := 2) hx hb dX0_copy_53 rfl ?_
            refine fc_VT (As := [.int 0, .int 2]) (rest := []) hx hb hml hown hts hX hC (m_X0_need_0 2) (lw_V q991 q993 qs31 q108 q994) hdV_X0_need ⟨rfl, rfl⟩ ⟨Nat.le_of_ble_eq_true rfl, Nat.le_of_ble_eq_true rfl⟩ (fx_recv (g := 5) (i := 0) (ci := 1) (q := (RX0, TX0, 13)) hX hC (cin rfl) rfl rfl) hl.1 rfl (Nat.le_of_ble_eq_true rfl) ⟨Nat.zero_le _, Nat.zero_le _⟩ dX0_copy_54 (fun _ H locs hC => ?_)
            refine fx_catch (own := "OwlEars") (name := "OwlEars$Refusal") hown (hts _ q141) hE (by decide) (by decide) (by decide) (fx_recv (g := 5) (i := 1) (ci := 2) (q := (RX1, TX1, 7)) hX hC (cin rfl) rfl rfl) ?_
            refine lv_astore (lv' := [(6, .ref (G.ad 5 1)), (7, .ref (G.ad 10 (ix t))), (0, .ref (G.ad 5 0)), (1, .int s0), (2, .int f), (3, .int t), (4, .int o), (5, .int n)]) hx hb dX0_copy_121 hl (by decide) rfl (fun ls hl => ?_)
            refine lv_aload_n hx hb dX0_copy_123 rfl (lv_at hl 2 rfl) ?_
            refine lv_aload hx hb dX0_copy_124 (lv_at hl 0 rfl) ?_
            refine fg_getN (C := RX1) (T := TX1) (N := 7) (ci := 2) (g := 5) (i := 1) (v := .int 2) hx hb hown hts hX hC in_X1 rfl (cin rfl) rfl 6 (by decide) (hX.2.2.1.F q193) (fun _ h => h) rfl dX0_copy_126 ?_
            refine fc_V (As := [.int 2]) (rest := []) hx hb hml hown hts hX hC (m_X0_finding 2 (vin_b rfl)) (lw_V q472 q474 qs2 q108 q475) hdV_X0_finding ⟨rfl, rfl⟩ ⟨Nat.le_of_ble_eq_true rfl, Nat.le_of_ble_eq_true rfl⟩ (fx_recv (g := 5) (i := 0) (ci := 1) (q := (RX0, TX0, 13)) hX hC (cin rfl) rfl rfl) hl.1 rfl (Nat.le_of_ble_eq_true rfl) ⟨Nat.zero_le _, Nat.zero_le _⟩ dX0_copy_129 (fun _ H locs hC => ?_)
            refine W.eq (g2 := F0 m 132 ls [.int (-1000003)]) rfl ?_
            have hs : s_copy fd (swr G) (snr G) sh s0 f t o n = (((-1000003), sh, p_find fd 2) : Int32 × Row × Row) := by rw [s_copy, if_pos ⟨hs, ht⟩, if_neg (fun z => z.elim (swr_n hG hs hn) (swr_n hG ht hm)), if_neg c_21]
            exact fr_i hx hb hr hlocks hX hC 2 (congrArg (fun z => some (Value.int z)) (t3_1 hs)) ((congrArg (fun z => cct G (pg d kp as un to (upd sc 3 2) ((s_copy fd (swr G) (snr G) sh s0 f t o n).2.2) tp z) sp) (t3_2 hs)).trans (congrArg (fun z => cct G (pg d kp as un to (upd sc 3 2) z tp sh) sp) (t3_3 hs))).symm dX0_copy_132
          · refine lv_iconst (v := 1) hx hb dX0_copy_48 rfl ?_
            refine lv_goto (tgt := 53) hx hb dX0_copy_49 (by decide) ?_
            refine lv_iconst (v := 2) hx hb dX0_copy_53 rfl ?_
            refine fc_V (As := [.int 1, .int 2]) (rest := []) hx hb hml hown hts hX hC (m_X0_need_1 2) (lw_V q991 q993 qs31 q108 q994) hdV_X0_need ⟨rfl, rfl⟩ ⟨Nat.le_of_ble_eq_true rfl, Nat.le_of_ble_eq_true rfl⟩ (fx_recv (g := 5) (i := 0) (ci := 1) (q := (RX0, TX0, 13)) hX hC (cin rfl) rfl rfl) hl.1 rfl (Nat.le_of_ble_eq_true rfl) ⟨Nat.zero_le _, Nat.zero_le _⟩ dX0_copy_54 (fun _ H locs hC => ?_)
            refine W.eq (g2 := F0 m 57 ls []) rfl ?_
            refine lv_aload_n hx hb dX0_copy_57 rfl (lv_at hl 2 rfl) ?_
            refine lv_iload hx hb dX0_copy_58 (lv_at hl 7 rfl) ?_
            refine lv_if_lt (tgt := 101) hx hb dX0_copy_60 (by decide) (fun c_25 => ?_) (fun c_25 => ?_)
            · refine lv_iconst (v := 0) hx hb dX0_copy_101 rfl ?_
              refine lv_iconst (v := 0) hx hb dX0_copy_102 rfl ?_
              refine fc_VT (As := [.int 0, .int 0]) (rest := []) hx hb hml hown hts hX hC (m_X0_need_0 0) (lw_V q991 q993 qs31 q108 q994) hdV_X0_need ⟨rfl, rfl⟩ ⟨Nat.le_of_ble_eq_true rfl, Nat.le_of_ble_eq_true rfl⟩ (fx_recv (g := 5) (i := 0) (ci := 1) (q := (RX0, TX0, 13)) hX hC (cin rfl) rfl rfl) hl.1 rfl (Nat.le_of_ble_eq_true rfl) ⟨Nat.zero_le _, Nat.zero_le _⟩ dX0_copy_103 (fun _ H locs hC => ?_)
              refine fx_catch (own := "OwlEars") (name := "OwlEars$Refusal") hown (hts _ q141) hE (by decide) (by decide) (by decide) (fx_recv (g := 5) (i := 1) (ci := 2) (q := (RX1, TX1, 7)) hX hC (cin rfl) rfl rfl) ?_
              refine lv_astore (lv' := [(6, .ref (G.ad 5 1)), (7, .ref (G.ad 10 (ix t))), (0, .ref (G.ad 5 0)), (1, .int s0), (2, .int f), (3, .int t), (4, .int o), (5, .int n)]) hx hb dX0_copy_121 hl (by decide) rfl (fun ls hl => ?_)
              refine lv_aload_n hx hb dX0_copy_123 rfl (lv_at hl 2 rfl) ?_
              refine lv_aload hx hb dX0_copy_124 (lv_at hl 0 rfl) ?_
              refine fg_getN (C := RX1) (T := TX1) (N := 7) (ci := 2) (g := 5) (i := 1) (v := .int 0) hx hb hown hts hX hC in_X1 rfl (cin rfl) rfl 6 (by decide) (hX.2.2.1.F q193) (fun _ h => h) rfl dX0_copy_126 ?_
              refine fc_V (As := [.int 0]) (rest := []) hx hb hml hown hts hX hC (m_X0_finding 0 (vin_b rfl)) (lw_V q472 q474 qs2 q108 q475) hdV_X0_finding ⟨rfl, rfl⟩ ⟨Nat.le_of_ble_eq_true rfl, Nat.le_of_ble_eq_true rfl⟩ (fx_recv (g := 5) (i := 0) (ci := 1) (q := (RX0, TX0, 13)) hX hC (cin rfl) rfl rfl) hl.1 rfl (Nat.le_of_ble_eq_true rfl) ⟨Nat.zero_le _, Nat.zero_le _⟩ dX0_copy_129 (fun _ H locs hC => ?_)
              refine W.eq (g2 := F0 m 132 ls [.int (-1000001)]) rfl ?_
              have hs : s_copy fd (swr G) (snr G) sh s0 f t o n = (((-1000001), sh, p_find fd 0) : Int32 × Row × Row) := by rw [s_copy, if_pos ⟨hs, ht⟩, if_neg (fun z => z.elim (swr_n hG hs hn) (swr_n hG ht hm)), if_pos c_21, if_neg (fun z => z.1 c_25)]
              exact fr_i hx hb hr hlocks hX hC 0 (congrArg (fun z => some (Value.int z)) (t3_1 hs)) ((congrArg (fun z => cct G (pg d kp as un to (upd sc 3 0) ((s_copy fd (swr G) (snr G) sh s0 f t o n).2.2) tp z) sp) (t3_2 hs)).trans (congrArg (fun z => cct G (pg d kp as un to (upd sc 3 0) z tp sh) sp) (t3_3 hs))).symm dX0_copy_132
            · refine lv_iload_n hx hb dX0_copy_63 rfl (lv_at hl 4 rfl) ?_
              refine lv_if_lt (tgt := 101) hx hb dX0_copy_64 (by decide) (fun c_28 => ?_) (fun c_28 => ?_)
              · refine lv_iconst (v := 0) hx hb dX0_copy_101 rfl ?_
                refine lv_iconst (v := 0) hx hb dX0_copy_102 rfl ?_
                refine fc_VT (As := [.int 0, .int 0]) (rest := []) hx hb hml hown hts hX hC (m_X0_need_0 0) (lw_V q991 q993 qs31 q108 q994) hdV_X0_need ⟨rfl, rfl⟩ ⟨Nat.le_of_ble_eq_true rfl, Nat.le_of_ble_eq_true rfl⟩ (fx_recv (g := 5) (i := 0) (ci := 1) (q := (RX0, TX0, 13)) hX hC (cin rfl) rfl rfl) hl.1 rfl (Nat.le_of_ble_eq_true rfl) ⟨Nat.zero_le _, Nat.zero_le _⟩ dX0_copy_103 (fun _ H locs hC => ?_)
                refine fx_catch (own := "OwlEars") (name := "OwlEars$Refusal") hown (hts _ q141) hE (by decide) (by decide) (by decide) (fx_recv (g := 5) (i := 1) (ci := 2) (q := (RX1, TX1, 7)) hX hC (cin rfl) rfl rfl) ?_
                refine lv_astore (lv' := [(6, .ref (G.ad 5 1)), (7, .ref (G.ad 10 (ix t))), (0, .ref (G.ad 5 0)), (1, .int s0), (2, .int f), (3, .int t), (4, .int o), (5, .int n)]) hx hb dX0_copy_121 hl (by decide) rfl (fun ls hl => ?_)
                refine lv_aload_n hx hb dX0_copy_123 rfl (lv_at hl 2 rfl) ?_
                refine lv_aload hx hb dX0_copy_124 (lv_at hl 0 rfl) ?_
                refine fg_getN (C := RX1) (T := TX1) (N := 7) (ci := 2) (g := 5) (i := 1) (v := .int 0) hx hb hown hts hX hC in_X1 rfl (cin rfl) rfl 6 (by decide) (hX.2.2.1.F q193) (fun _ h => h) rfl dX0_copy_126 ?_
                refine fc_V (As := [.int 0]) (rest := []) hx hb hml hown hts hX hC (m_X0_finding 0 (vin_b rfl)) (lw_V q472 q474 qs2 q108 q475) hdV_X0_finding ⟨rfl, rfl⟩ ⟨Nat.le_of_ble_eq_true rfl, Nat.le_of_ble_eq_true rfl⟩ (fx_recv (g := 5) (i := 0) (ci := 1) (q := (RX0, TX0, 13)) hX hC (cin rfl) rfl rfl) hl.1 rfl (Nat.le_of_ble_eq_true rfl) ⟨Nat.zero_le _, Nat.zero_le _⟩ dX0_copy_129 (fun _ H locs hC => ?_)
                refine W.eq (g2 := F0 m 132 ls [.int (-1000001)]) rfl ?_
                have hs : s_copy fd (swr G) (snr G) sh s0 f t o n = (((-1000001), sh, p_find fd 0) : Int32 × Row × Row) := by rw [s_copy, if_pos ⟨hs, ht⟩, if_neg (fun z => z.elim (swr_n hG hs hn) (swr_n hG ht hm)), if_pos c_21, if_neg (fun z => z.2.1 c_28)]
                exact fr_i hx hb hr hlocks hX hC 0 (congrArg (fun z => some (Value.int z)) (t3_1 hs)) ((congrArg (fun z => cct G (pg d kp as un to (upd sc 3 0) ((s_copy fd (swr G) (snr G) sh s0 f t o n).2.2) tp z) sp) (t3_2 hs)).trans (congrArg (fun z => cct G (pg d kp as un to (upd sc 3 0) z tp sh) sp) (t3_3 hs))).symm dX0_copy_132
              · refine lv_iload hx hb dX0_copy_67 (lv_at hl 6 rfl) ?_
                refine lv_if_lt (tgt := 101) hx hb dX0_copy_69 (by decide) (fun c_31 => ?_) (fun c_31 => ?_)
                · refine lv_iconst (v := 0) hx hb dX0_copy_101 rfl ?_
                  refine lv_iconst (v := 0) hx hb dX0_copy_102 rfl ?_
                  refine fc_VT (As := [.int 0, .int 0]) (rest := []) hx hb hml hown hts hX hC (m_X0_need_0 0) (lw_V q991 q993 qs31 q108 q994) hdV_X0_need ⟨rfl, rfl⟩ ⟨Nat.le_of_ble_eq_true rfl, Nat.le_of_ble_eq_true rfl⟩ (fx_recv (g := 5) (i := 0) (ci := 1) (q := (RX0, TX0, 13)) hX hC (cin rfl) rfl rfl) hl.1 rfl (Nat.le_of_ble_eq_true rfl) ⟨Nat.zero_le _, Nat.zero_le _⟩ dX0_copy_103 (fun _ H locs hC => ?_)
                  refine fx_catch (own := "OwlEars") (name := "OwlEars$Refusal") hown (hts _ q141) hE (by decide) (by decide) (by decide) (fx_recv (g := 5) (i := 1) (ci := 2) (q := (RX1, TX1, 7)) hX hC (cin rfl) rfl rfl) ?_
                  refine lv_astore (lv' := [(6, .ref (G.ad 5 1)), (7, .ref (G.ad 10 (ix t))), (0, .ref (G.ad 5 0)), (1, .int s0), (2, .int f), (3, .int t), (4, .int o), (5, .int n)]) hx hb dX0_copy_121 hl (by decide) rfl (fun ls hl => ?_)
                  refine lv_aload_n hx hb dX0_copy_123 rfl (lv_at hl 2 rfl) ?_
                  refine lv_aload hx hb dX0_copy_124 (lv_at hl 0 rfl) ?_
                  refine fg_getN (C := RX1) (T := TX1) (N := 7) (ci := 2) (g := 5) (i := 1) (v := .int 0) hx hb hown hts hX hC in_X1 rfl (cin rfl) rfl 6 (by decide) (hX.2.2.1.F q193) (fun _ h => h) rfl dX0_copy_126 ?_
                  refine fc_V (As := [.int 0]) (rest := []) hx hb hml hown hts hX hC (m_X0_finding 0 (vin_b rfl)) (lw_V q472 q474 qs2 q108 q475) hdV_X0_finding ⟨rfl, rfl⟩ ⟨Nat.le_of_ble_eq_true rfl, Nat.le_of_ble_eq_true rfl⟩ (fx_recv (g := 5) (i := 0) (ci := 1) (q := (RX0, TX0, 13)) hX hC (cin rfl) rfl rfl) hl.1 rfl (Nat.le_of_ble_eq_true rfl) ⟨Nat.zero_le _, Nat.zero_le _⟩ dX0_copy_129 (fun _ H locs hC => ?_)
                  refine W.eq (g2 := F0 m 132 ls [.int (-1000001)]) rfl ?_
                  have hs : s_copy fd (swr G) (snr G) sh s0 f t o n = (((-1000001), sh, p_find fd 0) : Int32 × Row × Row) := by rw [s_copy, if_pos ⟨hs, ht⟩, if_neg (fun z => z.elim (swr_n hG hs hn) (swr_n hG ht hm)), if_pos c_21, if_neg (fun z => z.2.2.1 c_31)]
                  exact fr_i hx hb hr hlocks hX hC 0 (congrArg (fun z => some (Value.int z)) (t3_1 hs)) ((congrArg (fun z => cct G (pg d kp as un to (upd sc 3 0) ((s_copy fd (swr G) (snr G) sh s0 f t o n).2.2) tp z) sp) (t3_2 hs)).trans (congrArg (fun z => cct G (pg d kp as un to (upd sc 3 0) z tp sh) sp) (t3_3 hs))).symm dX0_copy_132
                · refine lv_iload_n hx hb dX0_copy_72 rfl (lv_at hl 4 rfl) ?_
                  refine lv_aload hx hb dX0_copy_73 (lv_at hl 1 rfl) ?_
                  refine fc_S (As := [.ref (G.ad 10 (ix s0))]) (rest := [.int f, .ref (G.ad 5 0)]) hx hb hml hown hts hX hC (m_X0_length (ix s0) (vin_lt (vin_of hs 4 (by decide))) hG hn) (lw_S q1003 q1004 q108 q1005) hdS_X0_length ⟨rfl, rfl⟩ ⟨Nat.le_of_ble_eq_true rfl, Nat.le_of_ble_eq_true rfl⟩ hl.1 rfl (Nat.le_of_ble_eq_true rfl) ⟨Nat.zero_le _, Nat.zero_le _⟩ dX0_copy_75 (fun _ H locs hC => ?_)
                  refine W.eq (g2 := F0 m 78 ls [.int (nI ((G.sn (ix s0)))), .int f, .ref (G.ad 5 0)]) rfl ?_
                  refine lv_iload hx hb dX0_copy_78 (lv_at hl 7 rfl) ?_
                  refine lv_isub hx hb dX0_copy_80 ?_
                  refine lv_icmp_gt (tgt := 101) hx hb dX0_copy_81 (by decide) (fun c_35 => ?_) (fun c_35 => ?_)
                  · refine lv_iconst (v := 0) hx hb dX0_copy_101 rfl ?_
                    refine lv_iconst (v := 0) hx hb dX0_copy_102 rfl ?_
                    refine fc_VT (As := [.int 0, .int 0]) (rest := []) hx hb hml hown hts hX hC (m_X0_need_0 0) (lw_V q991 q993 qs31 q108 q994) hdV_X0_need ⟨rfl, rfl⟩ ⟨Nat.le_of_ble_eq_true rfl, Nat.le_of_ble_eq_true rfl⟩ (fx_recv (g := 5) (i := 0) (ci := 1) (q := (RX0, TX0, 13)) hX hC (cin rfl) rfl rfl) hl.1 rfl (Nat.le_of_ble_eq_true rfl) ⟨Nat.zero_le _, Nat.zero_le _⟩ dX0_copy_103 (fun _ H locs hC => ?_)
                    refine fx_catch (own := "OwlEars") (name := "OwlEars$Refusal") hown (hts _ q141) hE (by decide) (by decide) (by decide) (fx_recv (g := 5) (i := 1) (ci := 2) (q := (RX1, TX1, 7)) hX hC (cin rfl) rfl rfl) ?_
                    refine lv_astore (lv' := [(6, .ref (G.ad 5 1)), (7, .ref (G.ad 10 (ix t))), (0, .ref (G.ad 5 0)), (1, .int s0), (2, .int f), (3, .int t), (4, .int o), (5, .int n)]) hx hb dX0_copy_121 hl (by decide) rfl (fun ls hl => ?_)
                    refine lv_aload_n hx hb dX0_copy_123 rfl (lv_at hl 2 rfl) ?_
                    refine lv_aload hx hb dX0_copy_124 (lv_at hl 0 rfl) ?_
                    refine fg_getN (C := RX1) (T := TX1) (N := 7) (ci := 2) (g := 5) (i := 1) (v := .int 0) hx hb hown hts hX hC in_X1 rfl (cin rfl) rfl 6 (by decide) (hX.2.2.1.F q193) (fun _ h => h) rfl dX0_copy_126 ?_
                    refine fc_V (As := [.int 0]) (rest := []) hx hb hml hown hts hX hC (m_X0_finding 0 (vin_b rfl)) (lw_V q472 q474 qs2 q108 q475) hdV_X0_finding ⟨rfl, rfl⟩ ⟨Nat.le_of_ble_eq_true rfl, Nat.le_of_ble_eq_true rfl⟩ (fx_recv (g := 5) (i := 0) (ci := 1) (q := (RX0, TX0, 13)) hX hC (cin rfl) rfl rfl) hl.1 rfl (Nat.le_of_ble_eq_true rfl) ⟨Nat.zero_le _, Nat.zero_le _⟩ dX0_copy_129 (fun _ H locs hC => ?_)
                    refine W.eq (g2 := F0 m 132 ls [.int (-1000001)]) rfl ?_
                    have hs : s_copy fd (swr G) (snr G) sh s0 f t o n = (((-1000001), sh, p_find fd 0) : Int32 × Row × Row) := by rw [s_copy, if_pos ⟨hs, ht⟩, if_neg (fun z => z.elim (swr_n hG hs hn) (swr_n hG ht hm)), if_pos c_21, if_neg (fun z => z.2.2.2.1 c_35)]
                    exact fr_i hx hb hr hlocks hX hC 0 (congrArg (fun z => some (Value.int z)) (t3_1 hs)) ((congrArg (fun z => cct G (pg d kp as un to (upd sc 3 0) ((s_copy fd (swr G) (snr G) sh s0 f t o n).2.2) tp z) sp) (t3_2 hs)).trans (congrArg (fun z => cct G (pg d kp as un to (upd sc 3 0) z tp sh) sp) (t3_3 hs))).symm dX0_copy_132
                  · refine lv_iload hx hb dX0_copy_84 (lv_at hl 6 rfl) ?_
                    refine lv_aload hx hb dX0_copy_86 (lv_at hl 0 rfl) ?_
                    refine fc_S (As := [.ref (G.ad 10 (ix t))]) (rest := [.int o, .ref (G.ad 5 0)]) hx hb hml hown hts hX hC (m_X0_length (ix t) (vin_lt (vin_of ht 4 (by decide))) hG hm) (lw_S q1003 q1004 q108 q1005) hdS_X0_length ⟨rfl, rfl⟩ ⟨Nat.le_of_ble_eq_true rfl, Nat.le_of_ble_eq_true rfl⟩ hl.1 rfl (Nat.le_of_ble_eq_true rfl) ⟨Nat.zero_le _, Nat.zero_le _⟩ dX0_copy_88 (fun _ H locs hC => ?_)
                    refine W.eq (g2 := F0 m 91 ls [.int (nI ((G.sn (ix t)))), .int o, .ref (G.ad 5 0)]) rfl ?_
                    refine lv_iload hx hb dX0_copy_91 (lv_at hl 7 rfl) ?_
                    refine lv_isub hx hb dX0_copy_93 ?_
                    refine lv_icmp_gt (tgt := 101) hx hb dX0_copy_94 (by decide) (fun c_39 => ?_) (fun c_39 => ?_)
                    · refine lv_iconst (v := 0) hx hb dX0_copy_101 rfl ?_
                      refine lv_iconst (v := 0) hx hb dX0_copy_102 rfl ?_
                      refine fc_VT (As := [.int 0, .int 0]) (rest := []) hx hb hml hown hts hX hC (m_X0_need_0 0) (lw_V q991 q993 qs31 q108 q994) hdV_X0_need ⟨rfl, rfl⟩ ⟨Nat.le_of_ble_eq_true rfl, Nat.le_of_ble_eq_true rfl⟩ (fx_recv (g := 5) (i := 0) (ci := 1) (q := (RX0, TX0, 13)) hX hC (cin rfl) rfl rfl) hl.1 rfl (Nat.le_of_ble_eq_true rfl) ⟨Nat.zero_le _, Nat.zero_le _⟩ dX0_copy_103 (fun _ H locs hC => ?_)
                      refine fx_catch (own := "OwlEars") (name := "OwlEars$Refusal") hown (hts _ q141) hE (by decide) (by decide) (by decide) (fx_recv (g := 5) (i := 1) (ci := 2) (q := (RX1, TX1, 7)) hX hC (cin rfl) rfl rfl) ?_
                      refine lv_astore (lv' := [(6, .ref (G.ad 5 1)), (7, .ref (G.ad 10 (ix t))), (0, .ref (G.ad 5 0)), (1, .int s0), (2, .int f), (3, .int t), (4, .int o), (5, .int n)]) hx hb dX0_copy_121 hl (by decide) rfl (fun ls hl => ?_)
                      refine lv_aload_n hx hb dX0_copy_123 rfl (lv_at hl 2 rfl) ?_
                      refine lv_aload hx hb dX0_copy_124 (lv_at hl 0 rfl) ?_
                      refine fg_getN (C := RX1) (T := TX1) (N := 7) (ci := 2) (g := 5) (i := 1) (v := .int 0) hx hb hown hts hX hC in_X1 rfl (cin rfl) rfl 6 (by decide) (hX.2.2.1.F q193) (fun _ h => h) rfl dX0_copy_126 ?_
                      refine fc_V (As := [.int 0]) (rest := []) hx hb hml hown hts hX hC (m_X0_finding 0 (vin_b rfl)) (lw_V q472 q474 qs2 q108 q475) hdV_X0_finding ⟨rfl, rfl⟩ ⟨Nat.le_of_ble_eq_true rfl, Nat.le_of_ble_eq_true rfl⟩ (fx_recv (g := 5) (i := 0) (ci := 1) (q := (RX0, TX0, 13)) hX hC (cin rfl) rfl rfl) hl.1 rfl (Nat.le_of_ble_eq_true rfl) ⟨Nat.zero_le _, Nat.zero_le _⟩ dX0_copy_129 (fun _ H locs hC => ?_)
                      refine W.eq (g2 := F0 m 132 ls [.int (-1000001)]) rfl ?_
                      have hs : s_copy fd (swr G) (snr G) sh s0 f t o n = (((-1000001), sh, p_find fd 0) : Int32 × Row × Row) := by rw [s_copy, if_pos ⟨hs, ht⟩, if_neg (fun z => z.elim (swr_n hG hs hn) (swr_n hG ht hm)), if_pos c_21, if_neg (fun z => z.2.2.2.2 c_39)]
                      exact fr_i hx hb hr hlocks hX hC 0 (congrArg (fun z => some (Value.int z)) (t3_1 hs)) ((congrArg (fun z => cct G (pg d kp as un to (upd sc 3 0) ((s_copy fd (swr G) (snr G) sh s0 f t o n).2.2) tp z) sp) (t3_2 hs)).trans (congrArg (fun z => cct G (pg d kp as un to (upd sc 3 0) z tp sh) sp) (t3_3 hs))).symm dX0_copy_132
                    · refine lv_iconst (v := 1) hx hb dX0_copy_97 rfl ?_
                      refine lv_goto (tgt := 102) hx hb dX0_copy_98 (by decide) ?_
                      refine lv_iconst (v := 0) hx hb dX0_copy_102 rfl ?_
                      refine fc_V (As := [.int 1, .int 0]) (rest := []) hx hb hml hown hts hX hC (m_X0_need_1 0) (lw_V q991 q993 qs31 q108 q994) hdV_X0_need ⟨rfl, rfl⟩ ⟨Nat.le_of_ble_eq_true rfl, Nat.le_of_ble_eq_true rfl⟩ (fx_recv (g := 5) (i := 0) (ci := 1) (q := (RX0, TX0, 13)) hX hC (cin rfl) rfl rfl) hl.1 rfl (Nat.le_of_ble_eq_true rfl) ⟨Nat.zero_le _, Nat.zero_le _⟩ dX0_copy_103 (fun _ H locs hC => ?_)
                      refine W.eq (g2 := F0 m 106 ls []) rfl ?_
                      refine lv_aload hx hb dX0_copy_106 (lv_at hl 1 rfl) ?_
                      refine lv_iload_n hx hb dX0_copy_108 rfl (lv_at hl 4 rfl) ?_
                      refine lv_aload hx hb dX0_copy_109 (lv_at hl 0 rfl) ?_
                      refine lv_iload hx hb dX0_copy_111 (lv_at hl 6 rfl) ?_
                      refine lv_iload hx hb dX0_copy_113 (lv_at hl 7 rfl) ?_
                      refine fc_S (As := [.ref (G.ad 10 (ix s0)), .int f, .ref (G.ad 10 (ix t)), .int o, .int n]) (rest := []) hx hb hml hown hts hX hC (m_X0_slide (ix s0) (ix t) (vin_lt (vin_of hs 4 (by decide))) (vin_lt (vin_of ht 4 (by decide))) hG hF hn (sw_eq hG hs ht c_21) f o n c_28 c_31 c_25 (len_ok (hG _ (vin_lt (vin_of hs 4 (by decide)))).2 c_25 c_28 c_35) (len_ok (hG _ (vin_lt (vin_of ht 4 (by decide)))).2 c_25 c_31 c_39)) (lw_S q1238 q1239 q108 q1240) hdS_X0_slide ⟨rfl, rfl⟩ ⟨Nat.le_of_ble_eq_true rfl, Nat.le_of_ble_eq_true rfl⟩ hl.1 rfl (Nat.le_of_ble_eq_true rfl) ⟨Nat.zero_le _, Nat.zero_le _⟩ dX0_copy_115 (fun _ H locs hC => ?_)
                      refine W.eq (g2 := F0 m 118 ls []) rfl ?_
                      refine lv_iload hx hb dX0_copy_118 (lv_at hl 7 rfl) ?_
                      have hs : s_copy fd (swr G) (snr G) sh s0 f t o n = ((n, p_mv sh (40 * (ix s0) + ix f) (40 * (ix t) + ix o) (ix n), fd) : Int32 × Row × Row) := by rw [s_copy, if_pos ⟨hs, ht⟩, if_neg (fun z => z.elim (swr_n hG hs hn) (swr_n hG ht hm)), if_pos c_21, if_pos ⟨c_25, c_28, c_31, c_35, c_39⟩]
                      exact fr_i hx hb hr hlocks hX hC (sc 3) (congrArg (fun z => some (Value.int z)) (t3_1 hs)) (((congrArg (fun z => cct G (pg d kp as un to (upd sc 3 (sc 3)) ((s_copy fd (swr G) (snr G) sh s0 f t o n).2.2) tp z) sp) (t3_2 hs)).trans (congrArg (fun z => cct G (pg d kp as un to (upd sc 3 (sc 3)) z tp (p_mv sh (40 * (ix s0) + ix f) (40 * (ix t) + ix o) (ix n))) sp) (t3_3 hs))).trans (congrArg (fun z => cct G (pg d kp as un to z fd tp (p_mv sh (40 * (ix s0) + ix f) (40 * (ix t) + ix o) (ix n))) sp) ((upd_id sc 3).symm))).symm dX0_copy_120
      · refine lv_aload_n hx hb dX0_copy_0 rfl (lv_at hl 0 rfl) ?_
        refine lv_iload_n hx hb dX0_copy_1 rfl (lv_at hl 1 rfl) ?_
        refine fc_V (As := [.int s0]) (rest := []) hx hb hml hown hts hX hC (m_X0_rowAt_n s0 hs hn) (lw_V q984 q986 qs30 q108 q987) hdV_X0_rowAt ⟨rfl, rfl⟩ ⟨Nat.le_of_ble_eq_true rfl, Nat.le_of_ble_eq_true rfl⟩ (fx_recv (g := 5) (i := 0) (ci := 1) (q := (RX0, TX0, 13)) hX hC (cin rfl) rfl rfl) hl.1 rfl (Nat.le_of_ble_eq_true rfl) ⟨Nat.zero_le _, Nat.zero_le _⟩ dX0_copy_2 (fun _ H locs hC => ?_)
        refine W.eq (g2 := F0 m 5 ls [.ref (G.ad 10 (ix s0))]) rfl ?_
        refine lv_astore (lv' := [(6, .ref (G.ad 10 (ix s0))), (0, .ref (G.ad 5 0)), (1, .int s0), (2, .int f), (3, .int t), (4, .int o), (5, .int n)]) hx hb dX0_copy_5 hl (by decide) rfl (fun ls hl => ?_)
        refine lv_aload_n hx hb dX0_copy_7 rfl (lv_at hl 1 rfl) ?_
        refine lv_iload_n hx hb dX0_copy_8 rfl (lv_at hl 4 rfl) ?_
        refine fc_VT (As := [.int t]) (rest := []) hx hb hml hown hts hX hC (m_X0_rowAt_t t ht) (lw_V q984 q986 qs30 q108 q987) hdV_X0_rowAt ⟨rfl, rfl⟩ ⟨Nat.le_of_ble_eq_true rfl, Nat.le_of_ble_eq_true rfl⟩ (fx_recv (g := 5) (i := 0) (ci := 1) (q := (RX0, TX0, 13)) hX hC (cin rfl) rfl rfl) hl.1 rfl (Nat.le_of_ble_eq_true rfl) ⟨Nat.zero_le _, Nat.zero_le _⟩ dX0_copy_9 (fun _ H locs hC => ?_)
        refine fx_catch (own := "OwlEars") (name := "OwlEars$Refusal") hown (hts _ q141) hE (by decide) (by decide) (by decide) (fx_recv (g := 5) (i := 1) (ci := 2) (q := (RX1, TX1, 7)) hX hC (cin rfl) rfl rfl) ?_
        refine lv_astore (lv' := [(6, .ref (G.ad 5 1)), (0, .ref (G.ad 5 0)), (1, .int s0), (2, .int f), (3, .int t), (4, .int o), (5, .int n)]) hx hb dX0_copy_121 hl (by decide) rfl (fun ls hl => ?_)
        refine lv_aload_n hx hb dX0_copy_123 rfl (lv_at hl 1 rfl) ?_
        refine lv_aload hx hb dX0_copy_124 (lv_at hl 0 rfl) ?_
        refine fg_getN (C := RX1) (T := TX1) (N := 7) (ci := 2) (g := 5) (i := 1) (v := .int 0) hx hb hown hts hX hC in_X1 rfl (cin rfl) rfl 6 (by decide) (hX.2.2.1.F q193) (fun _ h => h) rfl dX0_copy_126 ?_
        refine fc_V (As := [.int 0]) (rest := []) hx hb hml hown hts hX hC (m_X0_finding 0 (vin_b rfl)) (lw_V q472 q474 qs2 q108 q475) hdV_X0_finding ⟨rfl, rfl⟩ ⟨Nat.le_of_ble_eq_true rfl, Nat.le_of_ble_eq_true rfl⟩ (fx_recv (g := 5) (i := 0) (ci := 1) (q := (RX0, TX0, 13)) hX hC (cin rfl) rfl rfl) hl.1 rfl (Nat.le_of_ble_eq_true rfl) ⟨Nat.zero_le _, Nat.zero_le _⟩ dX0_copy_129 (fun _ H locs hC => ?_)
        refine W.eq (g2 := F0 m 132 ls [.int (-1000001)]) rfl ?_
        have hs : s_copy fd (swr G) (snr G) sh s0 f t o n = (((-1000001), sh, p_find fd 0) : Int32 × Row × Row) := by rw [s_copy, if_neg (fun z => ht z.2)]
        exact fr_i hx hb hr hlocks hX hC 0 (congrArg (fun z => some (Value.int z)) (t3_1 hs)) ((congrArg (fun z => cct G (pg d kp as un to (upd sc 3 0) ((s_copy fd (swr G) (snr G) sh s0 f t o n).2.2) tp z) sp) (t3_2 hs)).trans (congrArg (fun z => cct G (pg d kp as un to (upd sc 3 0) z tp sh) sp) (t3_3 hs))).symm dX0_copy_132
  · refine lv_aload_n hx hb dX0_copy_0 rfl (lv_at hl 0 rfl) ?_
    refine lv_iload_n hx hb dX0_copy_1 rfl (lv_at hl 1 rfl) ?_
    refine fc_VT (As := [.int s0]) (rest := []) hx hb hml hown hts hX hC (m_X0_rowAt_t s0 hs) (lw_V q984 q986 qs30 q108 q987) hdV_X0_rowAt ⟨rfl, rfl⟩ ⟨Nat.le_of_ble_eq_true rfl, Nat.le_of_ble_eq_true rfl⟩ (fx_recv (g := 5) (i := 0) (ci := 1) (q := (RX0, TX0, 13)) hX hC (cin rfl) rfl rfl) hl.1 rfl (Nat.le_of_ble_eq_true rfl) ⟨Nat.zero_le _, Nat.zero_le _⟩ dX0_copy_2 (fun _ H locs hC => ?_)
    refine fx_catch (own := "OwlEars") (name := "OwlEars$Refusal") hown (hts _ q141) hE (by decide) (by decide) (by decide) (fx_recv (g := 5) (i := 1) (ci := 2) (q := (RX1, TX1, 7)) hX hC (cin rfl) rfl rfl) ?_
    refine lv_astore (lv' := [(6, .ref (G.ad 5 1)), (0, .ref (G.ad 5 0)), (1, .int s0), (2, .int f), (3, .int t), (4, .int o), (5, .int n)]) hx hb dX0_copy_121 hl (by decide) rfl (fun ls hl => ?_)
    refine lv_aload_n hx hb dX0_copy_123 rfl (lv_at hl 1 rfl) ?_
    refine lv_aload hx hb dX0_copy_124 (lv_at hl 0 rfl) ?_
    refine fg_getN (C := RX1) (T := TX1) (N := 7) (ci := 2) (g := 5) (i := 1) (v := .int 0) hx hb hown hts hX hC in_X1 rfl (cin rfl) rfl 6 (by decide) (hX.2.2.1.F q193) (fun _ h => h) rfl dX0_copy_126 ?_
    refine fc_V (As := [.int 0]) (rest := []) hx hb hml hown hts hX hC (m_X0_finding 0 (vin_b rfl)) (lw_V q472 q474 qs2 q108 q475) hdV_X0_finding ⟨rfl, rfl⟩ ⟨Nat.le_of_ble_eq_true rfl, Nat.le_of_ble_eq_true rfl⟩ (fx_recv (g := 5) (i := 0) (ci := 1) (q := (RX0, TX0, 13)) hX hC (cin rfl) rfl rfl) hl.1 rfl (Nat.le_of_ble_eq_true rfl) ⟨Nat.zero_le _, Nat.zero_le _⟩ dX0_copy_129 (fun _ H locs hC => ?_)
    refine W.eq (g2 := F0 m 132 ls [.int (-1000001)]) rfl ?_
    have hs : s_copy fd (swr G) (snr G) sh s0 f t o n = (((-1000001), sh, p_find fd 0) : Int32 × Row × Row) := by rw [s_copy, if_neg (fun z => hs z.1)]
    exact fr_i hx hb hr hlocks hX hC 0 (congrArg (fun z => some (Value.int z)) (t3_1 hs)) ((congrArg (fun z => cct G (pg d kp as un to (upd sc 3 0) ((s_copy fd (swr G) (snr G) sh s0 f t o n).2.2) tp z) sp) (t3_2 hs)).trans (congrArg (fun z => cct G (pg d kp as un to (upd sc 3 0) z tp sh) sp) (t3_3 hs))).symm dX0_copy_132
