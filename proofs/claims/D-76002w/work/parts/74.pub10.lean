theorem hdV_X0_refused : yX0_refused.cls = RX0 ∧ yX0_refused.cls ≠ "java/lang/invoke/MethodHandle" ∧ yX0_refused.cls ≠ "java/lang/invoke/VarHandle" ∧ (parseMethodDescriptor yX0_refused.desc).map (fun d => d.parameters.length) = some 1 := by decide +kernel
theorem hdS_X0_isSheet : yX0_isSheet.cls ≠ "java/lang/invoke/MethodHandle" ∧ yX0_isSheet.cls ≠ "java/lang/invoke/VarHandle" ∧ (parseMethodDescriptor yX0_isSheet.desc).map (fun d => d.parameters.length) = some 1 := by decide +kernel
theorem hdV_X0_need : yX0_need.cls = RX0 ∧ yX0_need.cls ≠ "java/lang/invoke/MethodHandle" ∧ yX0_need.cls ≠ "java/lang/invoke/VarHandle" ∧ (parseMethodDescriptor yX0_need.desc).map (fun d => d.parameters.length) = some 2 := by decide +kernel
set_option maxRecDepth 100000 in
theorem m_X0_length {l : Launch} {G : Gc} {d kp as un to sc fd tp sh : Row} {sp : Nat → Option Nat} (i0 : Nat) (hi0 : i0 < 4) (hG : GW G) (hn : ¬ G.sw i0 = 0) : Cm l yX0_length (ws_ yX0_length cX0_length 1 (some .int)) ({ frames := 0, cells := 0, slots := 0, locals := 0 }) (cF G) [.ref (G.ad 10 i0)] (cct G (pg d kp as un to sc fd tp sh) sp) (fun _ : Unit => some (.int (nI ((G.sn i0))))) (fun _ => cct G (pg d kp as un to sc fd tp sh) sp) := by
  refine Cm.start (by decide) (Nat.le_of_ble_eq_true rfl) ?_
  intro p e s m below meth c hf hX hC ls hl
  obtain ⟨hx, hb, hr, hml, hown, hts, hlocks⟩ := hf
  have hl : lv_has ls 1 [(0, .ref (G.ad 10 i0))] := hl
  have hown : s.vm.findClass "OwlEars" = some m.cls := hown
  have h40 := (hG i0 hi0).2
  rcases (hG i0 hi0).1 with qw | qw | qw | qw
  · exact absurd qw hn
  · refine lv_aload_n hx hb dX0_length_0 rfl (lv_at hl 0 rfl) ?_
    refine va_instE hx hb hown (hts _ q1006) (fx_w8 hX hC hi0 qw) dX0_length_1 ?_
    refine lv_if_eq (tgt := 15) hx hb dX0_length_4 (by decide) (fun z_1 => absurd z_1 (by decide)) (fun _ => ?_)
    refine lv_aload_n hx hb dX0_length_7 rfl (lv_at hl 0 rfl) ?_
    refine va_castE hx hb hown (hts _ q1006) (fx_w8 hX hC hi0 qw) dX0_length_8 ?_
    refine fg_alen (g := 10) (i := i0) (t0 := 2) (v := nI ((G.sn i0))) hx hb hX hC (cin10 hi0 hn) (c10_8 qw) rfl rfl dX0_length_11 ?_
    refine lv_goto (tgt := 35) hx hb dX0_length_12 (by decide) ?_
    exact fr_i hx hb hr hlocks hX hC () rfl rfl dX0_length_35
  · refine lv_aload_n hx hb dX0_length_0 rfl (lv_at hl 0 rfl) ?_
    refine va_instNo (C := "[S") hx hb hown (hts _ q1006) (hX.2.2.1.N nc_SB) (fx_w16 hX hC hi0 qw) dX0_length_1 ?_
    refine lv_if_eq (tgt := 15) hx hb dX0_length_4 (by decide) (fun _ => ?_) (fun z_2 => absurd (by decide) z_2)
    refine lv_aload_n hx hb dX0_length_15 rfl (lv_at hl 0 rfl) ?_
    refine va_instE hx hb hown (hts _ q1007) (fx_w16 hX hC hi0 qw) dX0_length_16 ?_
    refine lv_if_eq (tgt := 30) hx hb dX0_length_19 (by decide) (fun z_3 => absurd z_3 (by decide)) (fun _ => ?_)
    refine lv_aload_n hx hb dX0_length_22 rfl (lv_at hl 0 rfl) ?_
    refine va_castE hx hb hown (hts _ q1007) (fx_w16 hX hC hi0 qw) dX0_length_23 ?_
    refine fg_alen (g := 10) (i := i0) (t0 := 4) (v := nI ((G.sn i0))) hx hb hX hC (cin10 hi0 hn) (c10_16 qw) rfl rfl dX0_length_26 ?_
    refine lv_goto (tgt := 35) hx hb dX0_length_27 (by decide) ?_
    exact fr_i hx hb hr hlocks hX hC () rfl rfl dX0_length_35
  · refine lv_aload_n hx hb dX0_length_0 rfl (lv_at hl 0 rfl) ?_
    refine va_instNo (C := "[I") hx hb hown (hts _ q1006) (hX.2.2.1.N nc_IB) (fx_w32 hX hC hi0 qw) dX0_length_1 ?_
    refine lv_if_eq (tgt := 15) hx hb dX0_length_4 (by decide) (fun _ => ?_) (fun z_4 => absurd (by decide) z_4)
    refine lv_aload_n hx hb dX0_length_15 rfl (lv_at hl 0 rfl) ?_
    refine va_instNo (C := "[I") hx hb hown (hts _ q1007) (hX.2.2.1.N nc_IS) (fx_w32 hX hC hi0 qw) dX0_length_16 ?_
    refine lv_if_eq (tgt := 30) hx hb dX0_length_19 (by decide) (fun _ => ?_) (fun z_5 => absurd (by decide) z_5)
    refine lv_aload_n hx hb dX0_length_30 rfl (lv_at hl 0 rfl) ?_
    refine va_castE hx hb hown (hts _ q1008) (fx_w32 hX hC hi0 qw) dX0_length_31 ?_
    refine fg_alen (g := 10) (i := i0) (t0 := 0) (v := nI ((G.sn i0))) hx hb hX hC (cin10 hi0 hn) (c10_32 qw) rfl rfl dX0_length_34 ?_
    exact fr_i hx hb hr hlocks hX hC () rfl rfl dX0_length_35
set_option maxRecDepth 100000 in
theorem m_X0_number {l : Launch} {G : Gc} {d kp as un to sc fd tp sh : Row} {sp : Nat → Option Nat} (i0 : Nat) (hi0 : i0 < 4) (hG : GW G) (hn : ¬ G.sw i0 = 0) (k : Nat) (hk : k < G.sn i0) : Cm l yX0_number (ws_ yX0_number cX0_number 2 (some .int)) ({ frames := 0, cells := 0, slots := 0, locals := 0 }) (cF G) [.ref (G.ad 10 i0), .int (nI k)] (cct G (pg d kp as un to sc fd tp sh) sp) (fun _ : Unit => some (.int (sh (40 * i0 + k)))) (fun _ => cct G (pg d kp as un to sc fd tp sh) sp) := by
  refine Cm.start (by decide) (Nat.le_of_ble_eq_true rfl) ?_
  intro p e s m below meth c hf hX hC ls hl
  obtain ⟨hx, hb, hr, hml, hown, hts, hlocks⟩ := hf
  have hl : lv_has ls 2 [(0, .ref (G.ad 10 i0)), (1, .int (nI k))] := hl
  have hown : s.vm.findClass "OwlEars" = some m.cls := hown
  have h40 := (hG i0 hi0).2
  rcases (hG i0 hi0).1 with qw | qw | qw | qw
  · exact absurd qw hn
  · refine lv_aload_n hx hb dX0_number_0 rfl (lv_at hl 0 rfl) ?_
    refine va_instE hx hb hown (hts _ q1006) (fx_w8 hX hC hi0 qw) dX0_number_1 ?_
    refine lv_if_eq (tgt := 16) hx hb dX0_number_4 (by decide) (fun z_1 => absurd z_1 (by decide)) (fun _ => ?_)
    refine lv_aload_n hx hb dX0_number_7 rfl (lv_at hl 0 rfl) ?_
    refine va_castE hx hb hown (hts _ q1006) (fx_w8 hX hC hi0 qw) dX0_number_8 ?_
    refine lv_iload_n hx hb dX0_number_11 rfl (lv_at hl 1 rfl) ?_
    refine fg_bald (g := 10) (i := i0) (t0 := 2) (v := sh (40 * i0 + k)) hx hb hX hC (cin10 hi0 hn) (c10_8 qw) rfl (vp_in_nI hk (by omega)) (congrArg (fun z => sh (40 * i0 + z)) (nI_clamp (by omega))) dX0_number_12 ?_
    refine lv_goto (tgt := 38) hx hb dX0_number_13 (by decide) ?_
    exact fr_i hx hb hr hlocks hX hC () rfl rfl dX0_number_38
  · refine lv_aload_n hx hb dX0_number_0 rfl (lv_at hl 0 rfl) ?_
    refine va_instNo (C := "[S") hx hb hown (hts _ q1006) (hX.2.2.1.N nc_SB) (fx_w16 hX hC hi0 qw) dX0_number_1 ?_
    refine lv_if_eq (tgt := 16) hx hb dX0_number_4 (by decide) (fun _ => ?_) (fun z_2 => absurd (by decide) z_2)
    refine lv_aload_n hx hb dX0_number_16 rfl (lv_at hl 0 rfl) ?_
    refine va_instE hx hb hown (hts _ q1007) (fx_w16 hX hC hi0 qw) dX0_number_17 ?_
    refine lv_if_eq (tgt := 32) hx hb dX0_number_20 (by decide) (fun z_3 => absurd z_3 (by decide)) (fun _ => ?_)
    refine lv_aload_n hx hb dX0_number_23 rfl (lv_at hl 0 rfl) ?_
    refine va_castE hx hb hown (hts _ q1007) (fx_w16 hX hC hi0 qw) dX0_number_24 ?_
    refine lv_iload_n hx hb dX0_number_27 rfl (lv_at hl 1 rfl) ?_
    refine fg_sald (g := 10) (i := i0) (t0 := 4) (v := sh (40 * i0 + k)) hx hb hX hC (cin10 hi0 hn) (c10_16 qw) rfl (vp_in_nI hk (by omega)) (congrArg (fun z => sh (40 * i0 + z)) (nI_clamp (by omega))) dX0_number_28 ?_
    refine lv_goto (tgt := 38) hx hb dX0_number_29 (by decide) ?_
    exact fr_i hx hb hr hlocks hX hC () rfl rfl dX0_number_38
  · refine lv_aload_n hx hb dX0_number_0 rfl (lv_at hl 0 rfl) ?_
    refine va_instNo (C := "[I") hx hb hown (hts _ q1006) (hX.2.2.1.N nc_IB) (fx_w32 hX hC hi0 qw) dX0_number_1 ?_
    refine lv_if_eq (tgt := 16) hx hb dX0_number_4 (by decide) (fun _ => ?_) (fun z_4 => absurd (by decide) z_4)
    refine lv_aload_n hx hb dX0_number_16 rfl (lv_at hl 0 rfl) ?_
    refine va_instNo (C := "[I") hx hb hown (hts _ q1007) (hX.2.2.1.N nc_IS) (fx_w32 hX hC hi0 qw) dX0_number_17 ?_
    refine lv_if_eq (tgt := 32) hx hb dX0_number_20 (by decide) (fun _ => ?_) (fun z_5 => absurd (by decide) z_5)
    refine lv_aload_n hx hb dX0_number_32 rfl (lv_at hl 0 rfl) ?_
    refine va_castE hx hb hown (hts _ q1008) (fx_w32 hX hC hi0 qw) dX0_number_33 ?_
    refine lv_iload_n hx hb dX0_number_36 rfl (lv_at hl 1 rfl) ?_
    refine fg_iald (g := 10) (i := i0) (t0 := 0) (v := sh (40 * i0 + k)) hx hb hX hC (cin10 hi0 hn) (c10_32 qw) rfl (vp_in_nI hk (by omega)) (congrArg (fun z => sh (40 * i0 + z)) (nI_clamp (by omega))) dX0_number_37 ?_
    exact fr_i hx hb hr hlocks hX hC () rfl rfl dX0_number_38
set_option maxRecDepth 100000 in
theorem m_X0_widthOf {l : Launch} {G : Gc} {d kp as un to sc fd tp sh : Row} {sp : Nat → Option Nat} (i0 : Nat) (hi0 : i0 < 4) (hG : GW G) (hn : ¬ G.sw i0 = 0) : Cm l yX0_widthOf (ws_ yX0_widthOf cX0_widthOf 1 (some .int)) ({ frames := 0, cells := 0, slots := 0, locals := 0 }) (cF G) [.ref (G.ad 10 i0)] (cct G (pg d kp as un to sc fd tp sh) sp) (fun _ : Unit => some (.int (nI ((G.sw i0))))) (fun _ => cct G (pg d kp as un to sc fd tp sh) sp) := by
  refine Cm.start (by decide) (Nat.le_of_ble_eq_true rfl) ?_
  intro p e s m below meth c hf hX hC ls hl
  obtain ⟨hx, hb, hr, hml, hown, hts, hlocks⟩ := hf
  have hl : lv_has ls 1 [(0, .ref (G.ad 10 i0))] := hl
  have hown : s.vm.findClass "OwlEars" = some m.cls := hown
  have h40 := (hG i0 hi0).2
  rcases (hG i0 hi0).1 with qw | qw | qw | qw
  · exact absurd qw hn
  · refine lv_aload_n hx hb dX0_widthOf_0 rfl (lv_at hl 0 rfl) ?_
    refine va_instE hx hb hown (hts _ q1006) (fx_w8 hX hC hi0 qw) dX0_widthOf_1 ?_
    refine lv_if_eq (tgt := 12) hx hb dX0_widthOf_4 (by decide) (fun z_1 => absurd z_1 (by decide)) (fun _ => ?_)
    refine lv_bipush (v := 8) hx hb dX0_widthOf_7 rfl ?_
    refine lv_goto (tgt := 26) hx hb dX0_widthOf_9 (by decide) ?_
    exact fr_i hx hb hr hlocks hX hC () (congrArg (fun z => some (Value.int z)) (by rw [qw]; rfl)) rfl dX0_widthOf_26
  · refine lv_aload_n hx hb dX0_widthOf_0 rfl (lv_at hl 0 rfl) ?_
    refine va_instNo (C := "[S") hx hb hown (hts _ q1006) (hX.2.2.1.N nc_SB) (fx_w16 hX hC hi0 qw) dX0_widthOf_1 ?_
    refine lv_if_eq (tgt := 12) hx hb dX0_widthOf_4 (by decide) (fun _ => ?_) (fun z_2 => absurd (by decide) z_2)
    refine lv_aload_n hx hb dX0_widthOf_12 rfl (lv_at hl 0 rfl) ?_
    refine va_instE hx hb hown (hts _ q1007) (fx_w16 hX hC hi0 qw) dX0_widthOf_13 ?_
    refine lv_if_eq (tgt := 24) hx hb dX0_widthOf_16 (by decide) (fun z_3 => absurd z_3 (by decide)) (fun _ => ?_)
    refine lv_bipush (v := 16) hx hb dX0_widthOf_19 rfl ?_
    refine lv_goto (tgt := 26) hx hb dX0_widthOf_21 (by decide) ?_
    exact fr_i hx hb hr hlocks hX hC () (congrArg (fun z => some (Value.int z)) (by rw [qw]; rfl)) rfl dX0_widthOf_26
  · refine lv_aload_n hx hb dX0_widthOf_0 rfl (lv_at hl 0 rfl) ?_
    refine va_instNo (C := "[I") hx hb hown (hts _ q1006) (hX.2.2.1.N nc_IB) (fx_w32 hX hC hi0 qw) dX0_widthOf_1 ?_
    refine lv_if_eq (tgt := 12) hx hb dX0_widthOf_4 (by decide) (fun _ => ?_) (fun z_4 => absurd (by decide) z_4)
    refine lv_aload_n hx hb dX0_widthOf_12 rfl (lv_at hl 0 rfl) ?_
    refine va_instNo (C := "[I") hx hb hown (hts _ q1007) (hX.2.2.1.N nc_IS) (fx_w32 hX hC hi0 qw) dX0_widthOf_13 ?_
    refine lv_if_eq (tgt := 24) hx hb dX0_widthOf_16 (by decide) (fun _ => ?_) (fun z_5 => absurd (by decide) z_5)
    refine lv_bipush (v := 32) hx hb dX0_widthOf_24 rfl ?_
    exact fr_i hx hb hr hlocks hX hC () (congrArg (fun z => some (Value.int z)) (by rw [qw]; rfl)) rfl dX0_widthOf_26
set_option maxRecDepth 100000 in
theorem m_X0_lay {l : Launch} {G : Gc} {d kp as un to sc fd tp sh : Row} {sp : Nat → Option Nat} (i0 : Nat) (hi0 : i0 < 4) (hG : GW G) (hn : ¬ G.sw i0 = 0) (k v : Int32) (hk : vp_in k (G.sn i0)) : Cm l yX0_lay (ws_ yX0_lay cX0_lay 3 none) ({ frames := 0, cells := 0, slots := 0, locals := 0 }) (cF G) [.ref (G.ad 10 i0), .int k, .int v] (cct G (pg d kp as un to sc fd tp sh) sp) (fun _ : Unit => none) (fun _ => cct G (pg d kp as un to sc fd tp (upd sh (40 * i0 + ix k) (p_cut v (nI (G.sw i0))))) sp) := by
  refine Cm.start (by decide) (Nat.le_of_ble_eq_true rfl) ?_
  intro p e s m below meth c hf hX hC ls hl
  obtain ⟨hx, hb, hr, hml, hown, hts, hlocks⟩ := hf
  have hl : lv_has ls 3 [(0, .ref (G.ad 10 i0)), (1, .int k), (2, .int v)] := hl
  have hown : s.vm.findClass "OwlEars" = some m.cls := hown
  have h40 := (hG i0 hi0).2
  rcases (hG i0 hi0).1 with qw | qw | qw | qw
  · exact absurd qw hn
  · refine lv_aload_n hx hb dX0_lay_0 rfl (lv_at hl 0 rfl) ?_
    refine va_instE hx hb hown (hts _ q1006) (fx_w8 hX hC hi0 qw) dX0_lay_1 ?_
    refine lv_if_eq (tgt := 18) hx hb dX0_lay_4 (by decide) (fun z_1 => absurd z_1 (by decide)) (fun _ => ?_)
    refine lv_aload_n hx hb dX0_lay_7 rfl (lv_at hl 0 rfl) ?_
    refine va_castE hx hb hown (hts _ q1006) (fx_w8 hX hC hi0 qw) dX0_lay_8 ?_
    refine lv_iload_n hx hb dX0_lay_11 rfl (lv_at hl 1 rfl) ?_
    refine lv_iload_n hx hb dX0_lay_12 rfl (lv_at hl 2 rfl) ?_
    refine lv_i2b (v := v.toInt8.toInt32) hx hb dX0_lay_13 rfl ?_
    refine fg_bast (g := 10) (i := i0) (t0 := 2) hx hb hX hC (cin10 hi0 hn) (c10_8 qw) rfl hk (cct G (pg d kp as un to sc fd tp (upd sh (40 * i0 + ix k) (vp_nar .byte v.toInt8.toInt32))) sp) (cs_sh hG hi0 (vin_lt hk) (fun _ => c10_8 qw)) dX0_lay_14 (fun H locs hC => ?_)
    refine lv_goto (tgt := 43) hx hb dX0_lay_15 (by decide) ?_
    exact fr_v hx hb hr hlocks hX hC () rfl (congrArg (fun z => cct G (pg d kp as un to sc fd tp z) sp) (by rw [qw, nar_nar]; rfl)) dX0_lay_43
  · refine lv_aload_n hx hb dX0_lay_0 rfl (lv_at hl 0 rfl) ?_
    refine va_instNo (C := "[S") hx hb hown (hts _ q1006) (hX.2.2.1.N nc_SB) (fx_w16 hX hC hi0 qw) dX0_lay_1 ?_
    refine lv_if_eq (tgt := 18) hx hb dX0_lay_4 (by decide) (fun _ => ?_) (fun z_2 => absurd (by decide) z_2)
    refine lv_aload_n hx hb dX0_lay_18 rfl (lv_at hl 0 rfl) ?_
    refine va_instE hx hb hown (hts _ q1007) (fx_w16 hX hC hi0 qw) dX0_lay_19 ?_
    refine lv_if_eq (tgt := 36) hx hb dX0_lay_22 (by decide) (fun z_3 => absurd z_3 (by decide)) (fun _ => ?_)
    refine lv_aload_n hx hb dX0_lay_25 rfl (lv_at hl 0 rfl) ?_
    refine va_castE hx hb hown (hts _ q1007) (fx_w16 hX hC hi0 qw) dX0_lay_26 ?_
    refine lv_iload_n hx hb dX0_lay_29 rfl (lv_at hl 1 rfl) ?_
    refine lv_iload_n hx hb dX0_lay_30 rfl (lv_at hl 2 rfl) ?_
    refine lv_i2s (v := v.toInt16.toInt32) hx hb dX0_lay_31 rfl ?_
    refine fg_sast (g := 10) (i := i0) (t0 := 4) hx hb hX hC (cin10 hi0 hn) (c10_16 qw) rfl hk (cct G (pg d kp as un to sc fd tp (upd sh (40 * i0 + ix k) (vp_nar .short v.toInt16.toInt32))) sp) (cs_sh hG hi0 (vin_lt hk) (fun _ => c10_16 qw)) dX0_lay_32 (fun H locs hC => ?_)
    refine lv_goto (tgt := 43) hx hb dX0_lay_33 (by decide) ?_
    exact fr_v hx hb hr hlocks hX hC () rfl (congrArg (fun z => cct G (pg d kp as un to sc fd tp z) sp) (by rw [qw, nar16]; rfl)) dX0_lay_43
  · refine lv_aload_n hx hb dX0_lay_0 rfl (lv_at hl 0 rfl) ?_
    refine va_instNo (C := "[I") hx hb hown (hts _ q1006) (hX.2.2.1.N nc_IB) (fx_w32 hX hC hi0 qw) dX0_lay_1 ?_
    refine lv_if_eq (tgt := 18) hx hb dX0_lay_4 (by decide) (fun _ => ?_) (fun z_4 => absurd (by decide) z_4)
    refine lv_aload_n hx hb dX0_lay_18 rfl (lv_at hl 0 rfl) ?_
    refine va_instNo (C := "[I") hx hb hown (hts _ q1007) (hX.2.2.1.N nc_IS) (fx_w32 hX hC hi0 qw) dX0_lay_19 ?_
    refine lv_if_eq (tgt := 36) hx hb dX0_lay_22 (by decide) (fun _ => ?_) (fun z_5 => absurd (by decide) z_5)
    refine lv_aload_n hx hb dX0_lay_36 rfl (lv_at hl 0 rfl) ?_
    refine va_castE hx hb hown (hts _ q1008) (fx_w32 hX hC hi0 qw) dX0_lay_37 ?_
    refine lv_iload_n hx hb dX0_lay_40 rfl (lv_at hl 1 rfl) ?_
    refine lv_iload_n hx hb dX0_lay_41 rfl (lv_at hl 2 rfl) ?_
    refine fg_iast (g := 10) (i := i0) (t0 := 0) hx hb hX hC (cin10 hi0 hn) (c10_32 qw) rfl hk (cct G (pg d kp as un to sc fd tp (upd sh (40 * i0 + ix k) v)) sp) (cs_sh hG hi0 (vin_lt hk) (fun _ => c10_32 qw)) dX0_lay_42 (fun H locs hC => ?_)
    exact fr_v hx hb hr hlocks hX hC () rfl (congrArg (fun z => cct G (pg d kp as un to sc fd tp z) sp) (by rw [qw]; rfl)) dX0_lay_43
set_option maxRecDepth 100000 in
theorem m_X0_refused {l : Launch} {G : Gc} {d kp as un to sc fd tp sh : Row} {sp : Nat → Option Nat} (f : Int32) : Cm l yX0_refused (ws_ yX0_refused cX0_refused 2 (some (.object "OwlEars$Refusal"))) ({ frames := 0, cells := 0, slots := 0, locals := 0 }) (cF G) [.ref (G.ad 5 0), .int f] (cct G (pg d kp as un to sc fd tp sh) sp) (fun _ : Unit => some (.ref (G.ad 5 1))) (fun _ => cct G (pg d kp as un to (upd sc 3 f) fd tp sh) sp) := by
  refine Cm.start (by decide) (Nat.le_of_ble_eq_true rfl) ?_
  intro p e s m below meth c hf hX hC ls hl
  obtain ⟨hx, hb, hr, hml, hown, hts, hlocks⟩ := hf
  have hl : lv_has ls 2 [(0, .ref (G.ad 5 0)), (1, .int f)] := hl
  have hown : s.vm.findClass "OwlEars" = some m.cls := hown
  refine lv_aload_n hx hb dX0_refused_0 rfl (lv_at hl 0 rfl) ?_
  refine fg_get (C := RX0) (T := TX0) (N := 13) (ci := 1) (g := 5) (i := 0) (v := .ref (G.ad 5 1)) hx hb hown hts hX hC in_X0 rfl (cin rfl) rfl 0 (by decide) q421 (fun _ h => h) rfl dX0_refused_1 ?_
  refine lv_iload_n hx hb dX0_refused_4 rfl (lv_at hl 1 rfl) ?_
  refine fg_putN (C := RX1) (T := TX1) (N := 7) (ci := 2) (g := 5) (i := 1) hx hb hown hts hX hC in_X1 tyX1 tyX1_ok nmX1 rfl (cin rfl) rfl 6 (by decide) (hX.2.2.1.F q193) (fun _ h => h) rfl rfl rfl (Nat.le_of_ble_eq_true rfl) (cct G (pg d kp as un to (upd sc 3 f) fd tp sh) sp) cs_sc3 dX0_refused_5 (fun H locs hC => ?_)
  refine lv_aload_n hx hb dX0_refused_8 rfl (lv_at hl 0 rfl) ?_
  refine fg_get (C := RX0) (T := TX0) (N := 13) (ci := 1) (g := 5) (i := 0) (v := .ref (G.ad 5 1)) hx hb hown hts hX hC in_X0 rfl (cin rfl) rfl 0 (by decide) q421 (fun _ h => h) rfl dX0_refused_9 ?_
  exact fr_a hx hb hr (Or.inl ⟨_, rfl⟩) (Or.inr ⟨_, rfl⟩) hlocks hX hC () rfl rfl dX0_refused_12
set_option maxRecDepth 100000 in
theorem m_X0_need_t {l : Launch} {G : Gc} {d kp as un to sc fd tp sh : Row} {sp : Nat → Option Nat} (P9 : Prop) [Decidable P9] (h9 : P9) (f : Int32) : Cm l yX0_need (ws_ yX0_need cX0_need 3 none) ({ frames := 0, cells := 0, slots := 0, locals := 0 }) (cF G) [.ref (G.ad 5 0), .int (b2i P9), .int f] (cct G (pg d kp as un to sc fd tp sh) sp) (fun _ : Unit => none) (fun _ => cct G (pg d kp as un to sc fd tp sh) sp) := by
  refine Cm.start (by decide) (Nat.le_of_ble_eq_true rfl) ?_
  intro p e s m below meth c hf hX hC ls hl
  obtain ⟨hx, hb, hr, hml, hown, hts, hlocks⟩ := hf
  have hl : lv_has ls 3 [(0, .ref (G.ad 5 0)), (1, .int (b2i P9)), (2, .int f)] := hl
  have hown : s.vm.findClass "OwlEars" = some m.cls := hown
  refine lv_iload_n hx hb dX0_need_0 rfl (lv_at hl 1 rfl) ?_
  refine fb_ne (tgt := 10) hx hb dX0_need_1 (by decide) (fun _ => ?_) (fun z_1 => absurd h9 z_1)
  exact fr_v hx hb hr hlocks hX hC () rfl rfl dX0_need_10
set_option maxRecDepth 100000 in
theorem m_X0_need_f {l : Launch} {G : Gc} {d kp as un to sc fd tp sh : Row} {sp : Nat → Option Nat} (P9 : Prop) [Decidable P9] (h9 : ¬ P9) (f : Int32) : CmX l yX0_need (ws_ yX0_need cX0_need 3 none) ({ frames := 1, cells := 0, slots := 0, locals := 21 }) (cF G) [.ref (G.ad 5 0), .int (b2i P9), .int f] (cct G (pg d kp as un to sc fd tp sh) sp) (fun _ : Unit => .threw (G.ad 5 1)) (fun _ => cct G (pg d kp as un to (upd sc 3 f) fd tp sh) sp) := by
  refine CmX.start (by decide) (Nat.le_of_ble_eq_true rfl) ?_
  intro p e s m below meth c hf hE hX hC ls hl
  obtain ⟨hx, hb, hr, hml, hown, hts, hlocks⟩ := hf
  have hl : lv_has ls 3 [(0, .ref (G.ad 5 0)), (1, .int (b2i P9)), (2, .int f)] := hl
  have hown : s.vm.findClass "OwlEars" = some m.cls := hown
  refine lv_iload_n hx hb dX0_need_0 rfl (lv_at hl 1 rfl) ?_
  refine fb_ne (tgt := 10) hx hb dX0_need_1 (by decide) (fun z_1 => absurd z_1 h9) (fun _ => ?_)
  refine lv_aload_n hx hb dX0_need_4 rfl (lv_at hl 0 rfl) ?_
  refine lv_iload_n hx hb dX0_need_5 rfl (lv_at hl 2 rfl) ?_
  refine fc_V (As := [.int f]) (rest := []) hx hb hml hown hts hX hC (m_X0_refused f) (lw_V q995 q997 qs32 q108 q998) hdV_X0_refused ⟨rfl, rfl⟩ ⟨Nat.le_of_ble_eq_true rfl, Nat.le_of_ble_eq_true rfl⟩ (fx_recv (g := 5) (i := 0) (ci := 1) (q := (RX0, TX0, 13)) hX hC (cin rfl) rfl rfl) hl.1 rfl (Nat.le_of_ble_eq_true rfl) ⟨Nat.zero_le _, Nat.zero_le _⟩ dX0_need_6 (fun _ H locs hC => ?_)
  refine W.eq (g2 := F0 m 9 ls [.ref (G.ad 5 1)]) rfl ?_
  refine fx_athrow hx hb dX0_need_9 ?_
  exact fx_out hlocks hX hC hE rfl () rfl rfl
set_option maxRecDepth 100000 in
theorem m_X0_need_1 {l : Launch} {G : Gc} {d kp as un to sc fd tp sh : Row} {sp : Nat → Option Nat} (f : Int32) : Cm l yX0_need (ws_ yX0_need cX0_need 3 none) ({ frames := 0, cells := 0, slots := 0, locals := 0 }) (cF G) [.ref (G.ad 5 0), .int 1, .int f] (cct G (pg d kp as un to sc fd tp sh) sp) (fun _ : Unit => none) (fun _ => cct G (pg d kp as un to sc fd tp sh) sp) := by
  refine Cm.start (by decide) (Nat.le_of_ble_eq_true rfl) ?_
  intro p e s m below meth c hf hX hC ls hl
  obtain ⟨hx, hb, hr, hml, hown, hts, hlocks⟩ := hf
  have hl : lv_has ls 3 [(0, .ref (G.ad 5 0)), (1, .int 1), (2, .int f)] := hl
  have hown : s.vm.findClass "OwlEars" = some m.cls := hown
  refine lv_iload_n hx hb dX0_need_0 rfl (lv_at hl 1 rfl) ?_
  refine lv_if_ne (tgt := 10) hx hb dX0_need_1 (by decide) (fun _ => ?_) (fun z_1 => absurd z_1 (by decide))
  exact fr_v hx hb hr hlocks hX hC () rfl rfl dX0_need_10
set_option maxRecDepth 100000 in
theorem m_X0_need_0 {l : Launch} {G : Gc} {d kp as un to sc fd tp sh : Row} {sp : Nat → Option Nat} (f : Int32) : CmX l yX0_need (ws_ yX0_need cX0_need 3 none) ({ frames := 1, cells := 0, slots := 0, locals := 21 }) (cF G) [.ref (G.ad 5 0), .int 0, .int f] (cct G (pg d kp as un to sc fd tp sh) sp) (fun _ : Unit => .threw (G.ad 5 1)) (fun _ => cct G (pg d kp as un to (upd sc 3 f) fd tp sh) sp) := by
  refine CmX.start (by decide) (Nat.le_of_ble_eq_true rfl) ?_
  intro p e s m below meth c hf hE hX hC ls hl
  obtain ⟨hx, hb, hr, hml, hown, hts, hlocks⟩ := hf
  have hl : lv_has ls 3 [(0, .ref (G.ad 5 0)), (1, .int 0), (2, .int f)] := hl
  have hown : s.vm.findClass "OwlEars" = some m.cls := hown
  refine lv_iload_n hx hb dX0_need_0 rfl (lv_at hl 1 rfl) ?_
  refine lv_if_ne (tgt := 10) hx hb dX0_need_1 (by decide) (fun z_1 => absurd (by decide) z_1) (fun _ => ?_)
  refine lv_aload_n hx hb dX0_need_4 rfl (lv_at hl 0 rfl) ?_
  refine lv_iload_n hx hb dX0_need_5 rfl (lv_at hl 2 rfl) ?_
  refine fc_V (As := [.int f]) (rest := []) hx hb hml hown hts hX hC (m_X0_refused f) (lw_V q995 q997 qs32 q108 q998) hdV_X0_refused ⟨rfl, rfl⟩ ⟨Nat.le_of_ble_eq_true rfl, Nat.le_of_ble_eq_true rfl⟩ (fx_recv (g := 5) (i := 0) (ci := 1) (q := (RX0, TX0, 13)) hX hC (cin rfl) rfl rfl) hl.1 rfl (Nat.le_of_ble_eq_true rfl) ⟨Nat.zero_le _, Nat.zero_le _⟩ dX0_need_6 (fun _ H locs hC => ?_)
  refine W.eq (g2 := F0 m 9 ls [.ref (G.ad 5 1)]) rfl ?_
  refine fx_athrow hx hb dX0_need_9 ?_
  exact fx_out hlocks hX hC hE rfl () rfl rfl
set_option maxRecDepth 100000 in
theorem m_X0_rowAt_n {l : Launch} {G : Gc} {d kp as un to sc fd tp sh : Row} {sp : Nat → Option Nat} (s0 : Int32) (hs : p_in s0 0 3) (hn : ¬ G.sw (ix s0) = 0) : Cm l yX0_rowAt (ws_ yX0_rowAt cX0_rowAt 2 (some (.object "java/lang/Object"))) ({ frames := 2, cells := 0, slots := 0, locals := 42 }) (cF G) [.ref (G.ad 5 0), .int s0] (cct G (pg d kp as un to sc fd tp sh) sp) (fun _ : Unit => some (.ref (G.ad 10 (ix s0)))) (fun _ => cct G (pg d kp as un to sc fd tp sh) sp) := by
  refine Cm.start (by decide) (Nat.le_of_ble_eq_true rfl) ?_
  intro p e s m below meth c hf hX hC ls hl
  obtain ⟨hx, hb, hr, hml, hown, hts, hlocks⟩ := hf
  have hl : lv_has ls 2 [(0, .ref (G.ad 5 0)), (1, .int s0)] := hl
  have hown : s.vm.findClass "OwlEars" = some m.cls := hown
  refine lv_aload_n hx hb dX0_rowAt_0 rfl (lv_at hl 0 rfl) ?_
  refine lv_iload_n hx hb dX0_rowAt_1 rfl (lv_at hl 1 rfl) ?_
  refine fc_S (As := [.int s0]) (rest := [.ref (G.ad 5 0)]) hx hb hml hown hts hX hC (m_X0_isSheet s0) (lw_S q988 q989 q108 q990) hdS_X0_isSheet ⟨rfl, rfl⟩ ⟨Nat.le_of_ble_eq_true rfl, Nat.le_of_ble_eq_true rfl⟩ hl.1 rfl (Nat.le_of_ble_eq_true rfl) ⟨Nat.zero_le _, Nat.zero_le _⟩ dX0_rowAt_2 (fun _ H locs hC => ?_)
  refine W.eq (g2 := F0 m 5 ls [.int (b2i (p_in s0 0 3)), .ref (G.ad 5 0)]) rfl ?_
  refine lv_iconst (v := 0) hx hb dX0_rowAt_5 rfl ?_
  refine fc_V (As := [.int (b2i (p_in s0 0 3)), .int 0]) (rest := []) hx hb hml hown hts hX hC (m_X0_need_t (p_in s0 0 3) hs 0) (lw_V q991 q993 qs31 q108 q994) hdV_X0_need ⟨rfl, rfl⟩ ⟨Nat.le_of_ble_eq_true rfl, Nat.le_of_ble_eq_true rfl⟩ (fx_recv (g := 5) (i := 0) (ci := 1) (q := (RX0, TX0, 13)) hX hC (cin rfl) rfl rfl) hl.1 rfl (Nat.le_of_ble_eq_true rfl) ⟨Nat.zero_le _, Nat.zero_le _⟩ dX0_rowAt_6 (fun _ H locs hC => ?_)
  refine W.eq (g2 := F0 m 9 ls []) rfl ?_
  refine lv_aload_n hx hb dX0_rowAt_9 rfl (lv_at hl 0 rfl) ?_
  refine fg_get (C := RX0) (T := TX0) (N := 13) (ci := 1) (g := 5) (i := 0) (v := .ref (G.ad 5 7)) hx hb hown hts hX hC in_X0 rfl (cin rfl) rfl 10 (by decide) q432 (fun _ h => h) rfl dX0_rowAt_10 ?_
  refine lv_iload_n hx hb dX0_rowAt_13 rfl (lv_at hl 1 rfl) ?_
  refine fg_ald (g := 5) (i := 7) (t0 := 3) (ty := .object "OwlEars$Slot") (v := .ref (G.ad 9 (ix s0))) hx hb hX hC (cin rfl) rfl rfl rfl (vin_of hs 4 (by decide)) rfl dX0_rowAt_14 ?_
  refine fg_getN (C := RX5) (T := TX5) (N := 1) (ci := 5) (g := 9) (i := (ix s0)) (v := .ref (G.ad 10 (ix s0))) hx hb hown hts hX hC in_X5 rfl (cin9 (vin_lt (vin_of hs 4 (by decide)))) (c9_n hn) 0 (by decide) (hX.2.2.1.F q323) (fun _ h => h) rfl dX0_rowAt_15 ?_
  exact fr_a hx hb hr (Or.inl ⟨_, rfl⟩) (Or.inr ⟨_, rfl⟩) hlocks hX hC () rfl rfl dX0_rowAt_18
set_option maxRecDepth 100000 in
theorem m_X0_rowAt_0 {l : Launch} {G : Gc} {d kp as un to sc fd tp sh : Row} {sp : Nat → Option Nat} (s0 : Int32) (hs : p_in s0 0 3) (hn : G.sw (ix s0) = 0) : Cm l yX0_rowAt (ws_ yX0_rowAt cX0_rowAt 2 (some (.object "java/lang/Object"))) ({ frames := 2, cells := 0, slots := 0, locals := 42 }) (cF G) [.ref (G.ad 5 0), .int s0] (cct G (pg d kp as un to sc fd tp sh) sp) (fun _ : Unit => some (.null)) (fun _ => cct G (pg d kp as un to sc fd tp sh) sp) := by
  refine Cm.start (by decide) (Nat.le_of_ble_eq_true rfl) ?_
  intro p e s m below meth c hf hX hC ls hl
  obtain ⟨hx, hb, hr, hml, hown, hts, hlocks⟩ := hf
  have hl : lv_has ls 2 [(0, .ref (G.ad 5 0)), (1, .int s0)] := hl
  have hown : s.vm.findClass "OwlEars" = some m.cls := hown
  refine lv_aload_n hx hb dX0_rowAt_0 rfl (lv_at hl 0 rfl) ?_
  refine lv_iload_n hx hb dX0_rowAt_1 rfl (lv_at hl 1 rfl) ?_
  refine fc_S (As := [.int s0]) (rest := [.ref (G.ad 5 0)]) hx hb hml hown hts hX hC (m_X0_isSheet s0) (lw_S q988 q989 q108 q990) hdS_X0_isSheet ⟨rfl, rfl⟩ ⟨Nat.le_of_ble_eq_true rfl, Nat.le_of_ble_eq_true rfl⟩ hl.1 rfl (Nat.le_of_ble_eq_true rfl) ⟨Nat.zero_le _, Nat.zero_le _⟩ dX0_rowAt_2 (fun _ H locs hC => ?_)
  refine W.eq (g2 := F0 m 5 ls [.int (b2i (p_in s0 0 3)), .ref (G.ad 5 0)]) rfl ?_
  refine lv_iconst (v := 0) hx hb dX0_rowAt_5 rfl ?_
  refine fc_V (As := [.int (b2i (p_in s0 0 3)), .int 0]) (rest := []) hx hb hml hown hts hX hC (m_X0_need_t (p_in s0 0 3) hs 0) (lw_V q991 q993 qs31 q108 q994) hdV_X0_need ⟨rfl, rfl⟩ ⟨Nat.le_of_ble_eq_true rfl, Nat.le_of_ble_eq_true rfl⟩ (fx_recv (g := 5) (i := 0) (ci := 1) (q := (RX0, TX0, 13)) hX hC (cin rfl) rfl rfl) hl.1 rfl (Nat.le_of_ble_eq_true rfl) ⟨Nat.zero_le _, Nat.zero_le _⟩ dX0_rowAt_6 (fun _ H locs hC => ?_)
  refine W.eq (g2 := F0 m 9 ls []) rfl ?_
  refine lv_aload_n hx hb dX0_rowAt_9 rfl (lv_at hl 0 rfl) ?_
  refine fg_get (C := RX0) (T := TX0) (N := 13) (ci := 1) (g := 5) (i := 0) (v := .ref (G.ad 5 7)) hx hb hown hts hX hC in_X0 rfl (cin rfl) rfl 10 (by decide) q432 (fun _ h => h) rfl dX0_rowAt_10 ?_
  refine lv_iload_n hx hb dX0_rowAt_13 rfl (lv_at hl 1 rfl) ?_
  refine fg_ald (g := 5) (i := 7) (t0 := 3) (ty := .object "OwlEars$Slot") (v := .ref (G.ad 9 (ix s0))) hx hb hX hC (cin rfl) rfl rfl rfl (vin_of hs 4 (by decide)) rfl dX0_rowAt_14 ?_
  refine fg_getN (C := RX5) (T := TX5) (N := 1) (ci := 5) (g := 9) (i := (ix s0)) (v := .null) hx hb hown hts hX hC in_X5 rfl (cin9 (vin_lt (vin_of hs 4 (by decide)))) (c9_0 hn) 0 (by decide) (hX.2.2.1.F q323) (fun _ h => h) rfl dX0_rowAt_15 ?_
  exact fr_a hx hb hr (Or.inl ⟨_, rfl⟩) (Or.inl rfl) hlocks hX hC () rfl rfl dX0_rowAt_18
set_option maxRecDepth 100000 in
theorem m_X0_rowAt_t {l : Launch} {G : Gc} {d kp as un to sc fd tp sh : Row} {sp : Nat → Option Nat} (s0 : Int32) (hs : ¬ p_in s0 0 3) : CmX l yX0_rowAt (ws_ yX0_rowAt cX0_rowAt 2 (some (.object "java/lang/Object"))) ({ frames := 2, cells := 0, slots := 0, locals := 43 }) (cF G) [.ref (G.ad 5 0), .int s0] (cct G (pg d kp as un to sc fd tp sh) sp) (fun _ : Unit => .threw (G.ad 5 1)) (fun _ => cct G (pg d kp as un to (upd sc 3 0) fd tp sh) sp) := by
  refine CmX.start (by decide) (Nat.le_of_ble_eq_true rfl) ?_
  intro p e s m below meth c hf hE hX hC ls hl
  obtain ⟨hx, hb, hr, hml, hown, hts, hlocks⟩ := hf
  have hl : lv_has ls 2 [(0, .ref (G.ad 5 0)), (1, .int s0)] := hl
  have hown : s.vm.findClass "OwlEars" = some m.cls := hown
  refine lv_aload_n hx hb dX0_rowAt_0 rfl (lv_at hl 0 rfl) ?_
  refine lv_iload_n hx hb dX0_rowAt_1 rfl (lv_at hl 1 rfl) ?_
  refine fc_S (As := [.int s0]) (rest := [.ref (G.ad 5 0)]) hx hb hml hown hts hX hC (m_X0_isSheet s0) (lw_S q988 q989 q108 q990) hdS_X0_isSheet ⟨rfl, rfl⟩ ⟨Nat.le_of_ble_eq_true rfl, Nat.le_of_ble_eq_true rfl⟩ hl.1 rfl (Nat.le_of_ble_eq_true rfl) ⟨Nat.zero_le _, Nat.zero_le _⟩ dX0_rowAt_2 (fun _ H locs hC => ?_)
  refine W.eq (g2 := F0 m 5 ls [.int (b2i (p_in s0 0 3)), .ref (G.ad 5 0)]) rfl ?_
  refine lv_iconst (v := 0) hx hb dX0_rowAt_5 rfl ?_
  refine fc_VT (As := [.int (b2i (p_in s0 0 3)), .int 0]) (rest := []) hx hb hml hown hts hX hC (m_X0_need_f (p_in s0 0 3) hs 0) (lw_V q991 q993 qs31 q108 q994) hdV_X0_need ⟨rfl, rfl⟩ ⟨Nat.le_of_ble_eq_true rfl, Nat.le_of_ble_eq_true rfl⟩ (fx_recv (g := 5) (i := 0) (ci := 1) (q := (RX0, TX0, 13)) hX hC (cin rfl) rfl rfl) hl.1 rfl (Nat.le_of_ble_eq_true rfl) ⟨Nat.zero_le _, Nat.zero_le _⟩ dX0_rowAt_6 (fun _ H locs hC => ?_)
  exact fx_out hlocks hX hC hE rfl () rfl rfl
