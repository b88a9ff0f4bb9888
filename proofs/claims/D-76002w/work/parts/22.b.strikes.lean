theorem hdV_X6_told : yX6_told.cls = RX6 ∧ yX6_told.cls ≠ "java/lang/invoke/MethodHandle" ∧ yX6_told.cls ≠ "java/lang/invoke/VarHandle" ∧ (parseMethodDescriptor yX6_told.desc).map (fun d => d.parameters.length) = some 1 := by decide +kernel
theorem hdV_X6_kind : yX6_kind.cls = RX6 ∧ yX6_kind.cls ≠ "java/lang/invoke/MethodHandle" ∧ yX6_kind.cls ≠ "java/lang/invoke/VarHandle" ∧ (parseMethodDescriptor yX6_kind.desc).map (fun d => d.parameters.length) = some 0 := by decide +kernel
set_option maxRecDepth 100000 in
theorem m_X6_told_0_1 {l : Launch} {G : Gc} {d kp as un to sc fd tp sh : Row} {sp : Nat → Option Nat} (i0 : Nat) (hi : i0 < 8) : Cm l yX6_told (ws_ yX6_told cX6_told 2 (some .int)) ({ frames := 0, cells := 0, slots := 0, locals := 0 }) (cF G) [.ref (G.ad 20 i0), .int 1] (cct G (pg d kp as un to sc fd tp sh) sp) (fun _ : Unit => some (.int (d (93 + 4 * i0)))) (fun _ => cct G (pg d kp as un to sc fd tp sh) sp) := by
  refine Cm.start (by decide) (Nat.le_of_ble_eq_true rfl) ?_
  intro p e s m below meth c hf hX hC ls hl
  obtain ⟨hx, hb, hr, hml, hown, hts, hlocks⟩ := hf
  have hl : lv_has ls 2 [(0, .ref (G.ad 20 i0)), (1, .int 1)] := hl
  have hown : s.vm.findClass "OwlEars$Strike" = some m.cls := hown
  refine lv_aload_n hx hb dX6_told_0 rfl (lv_at hl 0 rfl) ?_
  refine fg_get (C := RX6) (T := TX6) (N := 2) (ci := 6) (g := 20) (i := i0) (v := .ref (G.ad 5 0)) hx hb hown hts hX hC in_X6 rfl (cin (decide_eq_true hi)) rfl 1 (by decide) q343 (fun _ h => h) rfl dX6_told_1 ?_
  refine fg_getN (C := RX0) (T := TX0) (N := 13) (ci := 1) (g := 5) (i := 0) (v := .ref (G.ad 0 0)) hx hb hown hts hX hC in_X0 rfl (cin rfl) rfl 3 (by decide) (hX.2.2.1.F q424) (fun _ h => h) rfl dX6_told_4 ?_
  refine fg_getN (C := RX4) (T := TX4) (N := 9) (ci := 0) (g := 0) (i := 0) (v := .ref (G.ad 0 5)) hx hb hown hts hX hC in_X4 rfl (cin rfl) rfl 5 (by decide) (hX.2.2.1.F q255) (fun _ h => h) rfl dX6_told_7 ?_
  refine lv_iload_n hx hb dX6_told_10 rfl (lv_at hl 1 rfl) ?_
  refine fg_ald (g := 0) (i := 5) (t0 := 1) (ty := .array .int) (v := .ref (G.ad 0 7)) hx hb hX hC (cin rfl) rfl rfl rfl (vin_b rfl) rfl dX6_told_11 ?_
  refine lv_aload_n hx hb dX6_told_12 rfl (lv_at hl 0 rfl) ?_
  refine fg_get (C := RX6) (T := TX6) (N := 2) (ci := 6) (g := 20) (i := i0) (v := .int (nI i0)) hx hb hown hts hX hC in_X6 rfl (cin (decide_eq_true hi)) rfl 0 (by decide) q341 (fun _ h => h) rfl dX6_told_13 ?_
  refine fg_iald (g := 0) (i := 7) (t0 := 0) (v := d (93 + 4 * i0)) hx hb hX hC (cin rfl) rfl rfl (vp_in_nI hi (by decide)) (congrArg (fun z => d (93 + 4 * z)) (nI_clamp (by omega))) dX6_told_16 ?_
  exact fr_i hx hb hr hlocks hX hC () rfl rfl dX6_told_17
set_option maxRecDepth 100000 in
theorem m_X6_told_1_1 {l : Launch} {G : Gc} {d kp as un to sc fd tp sh : Row} {sp : Nat → Option Nat} (i0 : Nat) (hi : i0 < 8) : Cm l yX6_told (ws_ yX6_told cX6_told 2 (some .int)) ({ frames := 0, cells := 0, slots := 0, locals := 0 }) (cF G) [.ref (G.ad 21 i0), .int 1] (cct G (pg d kp as un to sc fd tp sh) sp) (fun _ : Unit => some (.int (d (93 + 4 * i0)))) (fun _ => cct G (pg d kp as un to sc fd tp sh) sp) := by
  refine Cm.start (by decide) (Nat.le_of_ble_eq_true rfl) ?_
  intro p e s m below meth c hf hX hC ls hl
  obtain ⟨hx, hb, hr, hml, hown, hts, hlocks⟩ := hf
  have hl : lv_has ls 2 [(0, .ref (G.ad 21 i0)), (1, .int 1)] := hl
  have hown : s.vm.findClass "OwlEars$Strike" = some m.cls := hown
  refine lv_aload_n hx hb dX6_told_0 rfl (lv_at hl 0 rfl) ?_
  refine fg_get (C := RX7) (T := TX7) (N := 3) (ci := 7) (g := 21) (i := i0) (v := .ref (G.ad 5 0)) hx hb hown hts hX hC in_X7 rfl (cin (decide_eq_true hi)) rfl 1 (by decide) q343 (fun _ h => h) rfl dX6_told_1 ?_
  refine fg_getN (C := RX0) (T := TX0) (N := 13) (ci := 1) (g := 5) (i := 0) (v := .ref (G.ad 0 0)) hx hb hown hts hX hC in_X0 rfl (cin rfl) rfl 3 (by decide) (hX.2.2.1.F q424) (fun _ h => h) rfl dX6_told_4 ?_
  refine fg_getN (C := RX4) (T := TX4) (N := 9) (ci := 0) (g := 0) (i := 0) (v := .ref (G.ad 0 5)) hx hb hown hts hX hC in_X4 rfl (cin rfl) rfl 5 (by decide) (hX.2.2.1.F q255) (fun _ h => h) rfl dX6_told_7 ?_
  refine lv_iload_n hx hb dX6_told_10 rfl (lv_at hl 1 rfl) ?_
  refine fg_ald (g := 0) (i := 5) (t0 := 1) (ty := .array .int) (v := .ref (G.ad 0 7)) hx hb hX hC (cin rfl) rfl rfl rfl (vin_b rfl) rfl dX6_told_11 ?_
  refine lv_aload_n hx hb dX6_told_12 rfl (lv_at hl 0 rfl) ?_
  refine fg_get (C := RX7) (T := TX7) (N := 3) (ci := 7) (g := 21) (i := i0) (v := .int (nI i0)) hx hb hown hts hX hC in_X7 rfl (cin (decide_eq_true hi)) rfl 0 (by decide) q341 (fun _ h => h) rfl dX6_told_13 ?_
  refine fg_iald (g := 0) (i := 7) (t0 := 0) (v := d (93 + 4 * i0)) hx hb hX hC (cin rfl) rfl rfl (vp_in_nI hi (by decide)) (congrArg (fun z => d (93 + 4 * z)) (nI_clamp (by omega))) dX6_told_16 ?_
  exact fr_i hx hb hr hlocks hX hC () rfl rfl dX6_told_17
set_option maxRecDepth 100000 in
theorem m_X6_told_2_1 {l : Launch} {G : Gc} {d kp as un to sc fd tp sh : Row} {sp : Nat → Option Nat} (i0 : Nat) (hi : i0 < 8) : Cm l yX6_told (ws_ yX6_told cX6_told 2 (some .int)) ({ frames := 0, cells := 0, slots := 0, locals := 0 }) (cF G) [.ref (G.ad 22 i0), .int 1] (cct G (pg d kp as un to sc fd tp sh) sp) (fun _ : Unit => some (.int (d (93 + 4 * i0)))) (fun _ => cct G (pg d kp as un to sc fd tp sh) sp) := by
  refine Cm.start (by decide) (Nat.le_of_ble_eq_true rfl) ?_
  intro p e s m below meth c hf hX hC ls hl
  obtain ⟨hx, hb, hr, hml, hown, hts, hlocks⟩ := hf
  have hl : lv_has ls 2 [(0, .ref (G.ad 22 i0)), (1, .int 1)] := hl
  have hown : s.vm.findClass "OwlEars$Strike" = some m.cls := hown
  refine lv_aload_n hx hb dX6_told_0 rfl (lv_at hl 0 rfl) ?_
  refine fg_get (C := RX8) (T := TX8) (N := 3) (ci := 8) (g := 22) (i := i0) (v := .ref (G.ad 5 0)) hx hb hown hts hX hC in_X8 rfl (cin (decide_eq_true hi)) rfl 1 (by decide) q343 (fun _ h => h) rfl dX6_told_1 ?_
  refine fg_getN (C := RX0) (T := TX0) (N := 13) (ci := 1) (g := 5) (i := 0) (v := .ref (G.ad 0 0)) hx hb hown hts hX hC in_X0 rfl (cin rfl) rfl 3 (by decide) (hX.2.2.1.F q424) (fun _ h => h) rfl dX6_told_4 ?_
  refine fg_getN (C := RX4) (T := TX4) (N := 9) (ci := 0) (g := 0) (i := 0) (v := .ref (G.ad 0 5)) hx hb hown hts hX hC in_X4 rfl (cin rfl) rfl 5 (by decide) (hX.2.2.1.F q255) (fun _ h => h) rfl dX6_told_7 ?_
  refine lv_iload_n hx hb dX6_told_10 rfl (lv_at hl 1 rfl) ?_
  refine fg_ald (g := 0) (i := 5) (t0 := 1) (ty := .array .int) (v := .ref (G.ad 0 7)) hx hb hX hC (cin rfl) rfl rfl rfl (vin_b rfl) rfl dX6_told_11 ?_
  refine lv_aload_n hx hb dX6_told_12 rfl (lv_at hl 0 rfl) ?_
  refine fg_get (C := RX8) (T := TX8) (N := 3) (ci := 8) (g := 22) (i := i0) (v := .int (nI i0)) hx hb hown hts hX hC in_X8 rfl (cin (decide_eq_true hi)) rfl 0 (by decide) q341 (fun _ h => h) rfl dX6_told_13 ?_
  refine fg_iald (g := 0) (i := 7) (t0 := 0) (v := d (93 + 4 * i0)) hx hb hX hC (cin rfl) rfl rfl (vp_in_nI hi (by decide)) (congrArg (fun z => d (93 + 4 * z)) (nI_clamp (by omega))) dX6_told_16 ?_
  exact fr_i hx hb hr hlocks hX hC () rfl rfl dX6_told_17
set_option maxRecDepth 100000 in
theorem m_X6_told_3_1 {l : Launch} {G : Gc} {d kp as un to sc fd tp sh : Row} {sp : Nat → Option Nat} (i0 : Nat) (hi : i0 < 8) : Cm l yX6_told (ws_ yX6_told cX6_told 2 (some .int)) ({ frames := 0, cells := 0, slots := 0, locals := 0 }) (cF G) [.ref (G.ad 23 i0), .int 1] (cct G (pg d kp as un to sc fd tp sh) sp) (fun _ : Unit => some (.int (d (93 + 4 * i0)))) (fun _ => cct G (pg d kp as un to sc fd tp sh) sp) := by
  refine Cm.start (by decide) (Nat.le_of_ble_eq_true rfl) ?_
  intro p e s m below meth c hf hX hC ls hl
  obtain ⟨hx, hb, hr, hml, hown, hts, hlocks⟩ := hf
  have hl : lv_has ls 2 [(0, .ref (G.ad 23 i0)), (1, .int 1)] := hl
  have hown : s.vm.findClass "OwlEars$Strike" = some m.cls := hown
  refine lv_aload_n hx hb dX6_told_0 rfl (lv_at hl 0 rfl) ?_
  refine fg_get (C := RX9) (T := TX9) (N := 4) (ci := 9) (g := 23) (i := i0) (v := .ref (G.ad 5 0)) hx hb hown hts hX hC in_X9 rfl (cin (decide_eq_true hi)) rfl 1 (by decide) q343 (fun _ h => h) rfl dX6_told_1 ?_
  refine fg_getN (C := RX0) (T := TX0) (N := 13) (ci := 1) (g := 5) (i := 0) (v := .ref (G.ad 0 0)) hx hb hown hts hX hC in_X0 rfl (cin rfl) rfl 3 (by decide) (hX.2.2.1.F q424) (fun _ h => h) rfl dX6_told_4 ?_
  refine fg_getN (C := RX4) (T := TX4) (N := 9) (ci := 0) (g := 0) (i := 0) (v := .ref (G.ad 0 5)) hx hb hown hts hX hC in_X4 rfl (cin rfl) rfl 5 (by decide) (hX.2.2.1.F q255) (fun _ h => h) rfl dX6_told_7 ?_
  refine lv_iload_n hx hb dX6_told_10 rfl (lv_at hl 1 rfl) ?_
  refine fg_ald (g := 0) (i := 5) (t0 := 1) (ty := .array .int) (v := .ref (G.ad 0 7)) hx hb hX hC (cin rfl) rfl rfl rfl (vin_b rfl) rfl dX6_told_11 ?_
  refine lv_aload_n hx hb dX6_told_12 rfl (lv_at hl 0 rfl) ?_
  refine fg_get (C := RX9) (T := TX9) (N := 4) (ci := 9) (g := 23) (i := i0) (v := .int (nI i0)) hx hb hown hts hX hC in_X9 rfl (cin (decide_eq_true hi)) rfl 0 (by decide) q341 (fun _ h => h) rfl dX6_told_13 ?_
  refine fg_iald (g := 0) (i := 7) (t0 := 0) (v := d (93 + 4 * i0)) hx hb hX hC (cin rfl) rfl rfl (vp_in_nI hi (by decide)) (congrArg (fun z => d (93 + 4 * z)) (nI_clamp (by omega))) dX6_told_16 ?_
  exact fr_i hx hb hr hlocks hX hC () rfl rfl dX6_told_17
set_option maxRecDepth 100000 in
theorem m_X6_told_4_1 {l : Launch} {G : Gc} {d kp as un to sc fd tp sh : Row} {sp : Nat → Option Nat} (i0 : Nat) (hi : i0 < 8) : Cm l yX6_told (ws_ yX6_told cX6_told 2 (some .int)) ({ frames := 0, cells := 0, slots := 0, locals := 0 }) (cF G) [.ref (G.ad 24 i0), .int 1] (cct G (pg d kp as un to sc fd tp sh) sp) (fun _ : Unit => some (.int (d (93 + 4 * i0)))) (fun _ => cct G (pg d kp as un to sc fd tp sh) sp) := by
  refine Cm.start (by decide) (Nat.le_of_ble_eq_true rfl) ?_
  intro p e s m below meth c hf hX hC ls hl
  obtain ⟨hx, hb, hr, hml, hown, hts, hlocks⟩ := hf
  have hl : lv_has ls 2 [(0, .ref (G.ad 24 i0)), (1, .int 1)] := hl
  have hown : s.vm.findClass "OwlEars$Strike" = some m.cls := hown
  refine lv_aload_n hx hb dX6_told_0 rfl (lv_at hl 0 rfl) ?_
  refine fg_get (C := RX10) (T := TX10) (N := 5) (ci := 10) (g := 24) (i := i0) (v := .ref (G.ad 5 0)) hx hb hown hts hX hC in_X10 rfl (cin (decide_eq_true hi)) rfl 1 (by decide) q343 (fun _ h => h) rfl dX6_told_1 ?_
  refine fg_getN (C := RX0) (T := TX0) (N := 13) (ci := 1) (g := 5) (i := 0) (v := .ref (G.ad 0 0)) hx hb hown hts hX hC in_X0 rfl (cin rfl) rfl 3 (by decide) (hX.2.2.1.F q424) (fun _ h => h) rfl dX6_told_4 ?_
  refine fg_getN (C := RX4) (T := TX4) (N := 9) (ci := 0) (g := 0) (i := 0) (v := .ref (G.ad 0 5)) hx hb hown hts hX hC in_X4 rfl (cin rfl) rfl 5 (by decide) (hX.2.2.1.F q255) (fun _ h => h) rfl dX6_told_7 ?_
  refine lv_iload_n hx hb dX6_told_10 rfl (lv_at hl 1 rfl) ?_
  refine fg_ald (g := 0) (i := 5) (t0 := 1) (ty := .array .int) (v := .ref (G.ad 0 7)) hx hb hX hC (cin rfl) rfl rfl rfl (vin_b rfl) rfl dX6_told_11 ?_
  refine lv_aload_n hx hb dX6_told_12 rfl (lv_at hl 0 rfl) ?_
  refine fg_get (C := RX10) (T := TX10) (N := 5) (ci := 10) (g := 24) (i := i0) (v := .int (nI i0)) hx hb hown hts hX hC in_X10 rfl (cin (decide_eq_true hi)) rfl 0 (by decide) q341 (fun _ h => h) rfl dX6_told_13 ?_
  refine fg_iald (g := 0) (i := 7) (t0 := 0) (v := d (93 + 4 * i0)) hx hb hX hC (cin rfl) rfl rfl (vp_in_nI hi (by decide)) (congrArg (fun z => d (93 + 4 * z)) (nI_clamp (by omega))) dX6_told_16 ?_
  exact fr_i hx hb hr hlocks hX hC () rfl rfl dX6_told_17
set_option maxRecDepth 100000 in
theorem m_X6_told_4_2 {l : Launch} {G : Gc} {d kp as un to sc fd tp sh : Row} {sp : Nat → Option Nat} (i0 : Nat) (hi : i0 < 8) : Cm l yX6_told (ws_ yX6_told cX6_told 2 (some .int)) ({ frames := 0, cells := 0, slots := 0, locals := 0 }) (cF G) [.ref (G.ad 24 i0), .int 2] (cct G (pg d kp as un to sc fd tp sh) sp) (fun _ : Unit => some (.int (d (94 + 4 * i0)))) (fun _ => cct G (pg d kp as un to sc fd tp sh) sp) := by
  refine Cm.start (by decide) (Nat.le_of_ble_eq_true rfl) ?_
  intro p e s m below meth c hf hX hC ls hl
  obtain ⟨hx, hb, hr, hml, hown, hts, hlocks⟩ := hf
  have hl : lv_has ls 2 [(0, .ref (G.ad 24 i0)), (1, .int 2)] := hl
  have hown : s.vm.findClass "OwlEars$Strike" = some m.cls := hown
  refine lv_aload_n hx hb dX6_told_0 rfl (lv_at hl 0 rfl) ?_
  refine fg_get (C := RX10) (T := TX10) (N := 5) (ci := 10) (g := 24) (i := i0) (v := .ref (G.ad 5 0)) hx hb hown hts hX hC in_X10 rfl (cin (decide_eq_true hi)) rfl 1 (by decide) q343 (fun _ h => h) rfl dX6_told_1 ?_
  refine fg_getN (C := RX0) (T := TX0) (N := 13) (ci := 1) (g := 5) (i := 0) (v := .ref (G.ad 0 0)) hx hb hown hts hX hC in_X0 rfl (cin rfl) rfl 3 (by decide) (hX.2.2.1.F q424) (fun _ h => h) rfl dX6_told_4 ?_
  refine fg_getN (C := RX4) (T := TX4) (N := 9) (ci := 0) (g := 0) (i := 0) (v := .ref (G.ad 0 5)) hx hb hown hts hX hC in_X4 rfl (cin rfl) rfl 5 (by decide) (hX.2.2.1.F q255) (fun _ h => h) rfl dX6_told_7 ?_
  refine lv_iload_n hx hb dX6_told_10 rfl (lv_at hl 1 rfl) ?_
  refine fg_ald (g := 0) (i := 5) (t0 := 1) (ty := .array .int) (v := .ref (G.ad 0 8)) hx hb hX hC (cin rfl) rfl rfl rfl (vin_b rfl) rfl dX6_told_11 ?_
  refine lv_aload_n hx hb dX6_told_12 rfl (lv_at hl 0 rfl) ?_
  refine fg_get (C := RX10) (T := TX10) (N := 5) (ci := 10) (g := 24) (i := i0) (v := .int (nI i0)) hx hb hown hts hX hC in_X10 rfl (cin (decide_eq_true hi)) rfl 0 (by decide) q341 (fun _ h => h) rfl dX6_told_13 ?_
  refine fg_iald (g := 0) (i := 8) (t0 := 0) (v := d (94 + 4 * i0)) hx hb hX hC (cin rfl) rfl rfl (vp_in_nI hi (by decide)) (congrArg (fun z => d (94 + 4 * z)) (nI_clamp (by omega))) dX6_told_16 ?_
  exact fr_i hx hb hr hlocks hX hC () rfl rfl dX6_told_17
set_option maxRecDepth 100000 in
theorem m_X6_told_5_1 {l : Launch} {G : Gc} {d kp as un to sc fd tp sh : Row} {sp : Nat → Option Nat} (i0 : Nat) (hi : i0 < 8) : Cm l yX6_told (ws_ yX6_told cX6_told 2 (some .int)) ({ frames := 0, cells := 0, slots := 0, locals := 0 }) (cF G) [.ref (G.ad 25 i0), .int 1] (cct G (pg d kp as un to sc fd tp sh) sp) (fun _ : Unit => some (.int (d (93 + 4 * i0)))) (fun _ => cct G (pg d kp as un to sc fd tp sh) sp) := by
  refine Cm.start (by decide) (Nat.le_of_ble_eq_true rfl) ?_
  intro p e s m below meth c hf hX hC ls hl
  obtain ⟨hx, hb, hr, hml, hown, hts, hlocks⟩ := hf
  have hl : lv_has ls 2 [(0, .ref (G.ad 25 i0)), (1, .int 1)] := hl
  have hown : s.vm.findClass "OwlEars$Strike" = some m.cls := hown
  refine lv_aload_n hx hb dX6_told_0 rfl (lv_at hl 0 rfl) ?_
  refine fg_get (C := RX11) (T := TX11) (N := 3) (ci := 11) (g := 25) (i := i0) (v := .ref (G.ad 5 0)) hx hb hown hts hX hC in_X11 rfl (cin (decide_eq_true hi)) rfl 1 (by decide) q343 (fun _ h => h) rfl dX6_told_1 ?_
  refine fg_getN (C := RX0) (T := TX0) (N := 13) (ci := 1) (g := 5) (i := 0) (v := .ref (G.ad 0 0)) hx hb hown hts hX hC in_X0 rfl (cin rfl) rfl 3 (by decide) (hX.2.2.1.F q424) (fun _ h => h) rfl dX6_told_4 ?_
  refine fg_getN (C := RX4) (T := TX4) (N := 9) (ci := 0) (g := 0) (i := 0) (v := .ref (G.ad 0 5)) hx hb hown hts hX hC in_X4 rfl (cin rfl) rfl 5 (by decide) (hX.2.2.1.F q255) (fun _ h => h) rfl dX6_told_7 ?_
  refine lv_iload_n hx hb dX6_told_10 rfl (lv_at hl 1 rfl) ?_
  refine fg_ald (g := 0) (i := 5) (t0 := 1) (ty := .array .int) (v := .ref (G.ad 0 7)) hx hb hX hC (cin rfl) rfl rfl rfl (vin_b rfl) rfl dX6_told_11 ?_
  refine lv_aload_n hx hb dX6_told_12 rfl (lv_at hl 0 rfl) ?_
  refine fg_get (C := RX11) (T := TX11) (N := 3) (ci := 11) (g := 25) (i := i0) (v := .int (nI i0)) hx hb hown hts hX hC in_X11 rfl (cin (decide_eq_true hi)) rfl 0 (by decide) q341 (fun _ h => h) rfl dX6_told_13 ?_
  refine fg_iald (g := 0) (i := 7) (t0 := 0) (v := d (93 + 4 * i0)) hx hb hX hC (cin rfl) rfl rfl (vp_in_nI hi (by decide)) (congrArg (fun z => d (93 + 4 * z)) (nI_clamp (by omega))) dX6_told_16 ?_
  exact fr_i hx hb hr hlocks hX hC () rfl rfl dX6_told_17
set_option maxRecDepth 100000 in
theorem m_X6_told_6_1 {l : Launch} {G : Gc} {d kp as un to sc fd tp sh : Row} {sp : Nat → Option Nat} (i0 : Nat) (hi : i0 < 8) : Cm l yX6_told (ws_ yX6_told cX6_told 2 (some .int)) ({ frames := 0, cells := 0, slots := 0, locals := 0 }) (cF G) [.ref (G.ad 26 i0), .int 1] (cct G (pg d kp as un to sc fd tp sh) sp) (fun _ : Unit => some (.int (d (93 + 4 * i0)))) (fun _ => cct G (pg d kp as un to sc fd tp sh) sp) := by
  refine Cm.start (by decide) (Nat.le_of_ble_eq_true rfl) ?_
  intro p e s m below meth c hf hX hC ls hl
  obtain ⟨hx, hb, hr, hml, hown, hts, hlocks⟩ := hf
  have hl : lv_has ls 2 [(0, .ref (G.ad 26 i0)), (1, .int 1)] := hl
  have hown : s.vm.findClass "OwlEars$Strike" = some m.cls := hown
  refine lv_aload_n hx hb dX6_told_0 rfl (lv_at hl 0 rfl) ?_
  refine fg_get (C := RX12) (T := TX12) (N := 4) (ci := 12) (g := 26) (i := i0) (v := .ref (G.ad 5 0)) hx hb hown hts hX hC in_X12 rfl (cin (decide_eq_true hi)) rfl 1 (by decide) q343 (fun _ h => h) rfl dX6_told_1 ?_
  refine fg_getN (C := RX0) (T := TX0) (N := 13) (ci := 1) (g := 5) (i := 0) (v := .ref (G.ad 0 0)) hx hb hown hts hX hC in_X0 rfl (cin rfl) rfl 3 (by decide) (hX.2.2.1.F q424) (fun _ h => h) rfl dX6_told_4 ?_
  refine fg_getN (C := RX4) (T := TX4) (N := 9) (ci := 0) (g := 0) (i := 0) (v := .ref (G.ad 0 5)) hx hb hown hts hX hC in_X4 rfl (cin rfl) rfl 5 (by decide) (hX.2.2.1.F q255) (fun _ h => h) rfl dX6_told_7 ?_
  refine lv_iload_n hx hb dX6_told_10 rfl (lv_at hl 1 rfl) ?_
  refine fg_ald (g := 0) (i := 5) (t0 := 1) (ty := .array .int) (v := .ref (G.ad 0 7)) hx hb hX hC (cin rfl) rfl rfl rfl (vin_b rfl) rfl dX6_told_11 ?_
  refine lv_aload_n hx hb dX6_told_12 rfl (lv_at hl 0 rfl) ?_
  refine fg_get (C := RX12) (T := TX12) (N := 4) (ci := 12) (g := 26) (i := i0) (v := .int (nI i0)) hx hb hown hts hX hC in_X12 rfl (cin (decide_eq_true hi)) rfl 0 (by decide) q341 (fun _ h => h) rfl dX6_told_13 ?_
  refine fg_iald (g := 0) (i := 7) (t0 := 0) (v := d (93 + 4 * i0)) hx hb hX hC (cin rfl) rfl rfl (vp_in_nI hi (by decide)) (congrArg (fun z => d (93 + 4 * z)) (nI_clamp (by omega))) dX6_told_16 ?_
  exact fr_i hx hb hr hlocks hX hC () rfl rfl dX6_told_17
set_option maxRecDepth 100000 in
theorem m_X6_kind_0 {l : Launch} {G : Gc} {d kp as un to sc fd tp sh : Row} {sp : Nat → Option Nat} (i0 : Nat) (hi : i0 < 8) : Cm l yX6_kind (ws_ yX6_kind cX6_kind 1 (some .int)) ({ frames := 0, cells := 0, slots := 0, locals := 0 }) (cF G) [.ref (G.ad 20 i0)] (cct G (pg d kp as un to sc fd tp sh) sp) (fun _ : Unit => some (.int 0)) (fun _ => cct G (pg d kp as un to sc fd tp sh) sp) := by
  refine Cm.start (by decide) (Nat.le_of_ble_eq_true rfl) ?_
  intro p e s m below meth c hf hX hC ls hl
  obtain ⟨hx, hb, hr, hml, hown, hts, hlocks⟩ := hf
  have hl : lv_has ls 1 [(0, .ref (G.ad 20 i0))] := hl
  have hown : s.vm.findClass "OwlEars$Strike" = some m.cls := hown
  refine lv_iconst (v := 0) hx hb dX6_kind_0 rfl ?_
  exact fr_i hx hb hr hlocks hX hC () rfl rfl dX6_kind_1
set_option maxRecDepth 100000 in
theorem m_X6_takes_0 {l : Launch} {G : Gc} {d kp as un to sc fd tp sh : Row} {sp : Nat → Option Nat} (i0 : Nat) (hi : i0 < 8) : Cm l yX6_takes (ws_ yX6_takes cX6_takes 1 (some .int)) ({ frames := 2, cells := 0, slots := 0, locals := 35 }) (cF G) [.ref (G.ad 20 i0)] (cct G (pg d kp as un to sc fd tp sh) sp) (fun _ : Unit => some (.int (p_apart (d (93 + 4 * i0)) (d 8) + 1))) (fun _ => cct G (pg d kp as un to sc fd tp sh) sp) := by
  refine Cm.start (by decide) (Nat.le_of_ble_eq_true rfl) ?_
  intro p e s m below meth c hf hX hC ls hl
  obtain ⟨hx, hb, hr, hml, hown, hts, hlocks⟩ := hf
  have hl : lv_has ls 1 [(0, .ref (G.ad 20 i0))] := hl
  have hown : s.vm.findClass "OwlEars$Strike" = some m.cls := hown
  refine lv_aload_n hx hb dX6_takes_0 rfl (lv_at hl 0 rfl) ?_
  refine lv_iconst (v := 1) hx hb dX6_takes_1 rfl ?_
  refine fc_V (As := [.int 1]) (rest := []) hx hb hml hown hts hX hC (m_X6_told_0_1 i0 hi) (lw_V q592 q593 q594 q117 q602) hdV_X6_told ⟨rfl, rfl⟩ ⟨Nat.le_of_ble_eq_true rfl, Nat.le_of_ble_eq_true rfl⟩ (fx_recv (g := 20) (i := i0) (ci := 6) (q := (RX6, TX6, 2)) hX hC (cin (decide_eq_true hi)) rfl rfl) hl.1 rfl (Nat.le_of_ble_eq_true rfl) ⟨Nat.zero_le _, Nat.zero_le _⟩ dX6_takes_2 (fun _ H locs hC => ?_)
  refine W.eq (g2 := F0 m 5 ls [.int (d (93 + 4 * i0))]) rfl ?_
  refine lv_aload_n hx hb dX6_takes_5 rfl (lv_at hl 0 rfl) ?_
  refine fg_get (C := RX6) (T := TX6) (N := 2) (ci := 6) (g := 20) (i := i0) (v := .ref (G.ad 5 0)) hx hb hown hts hX hC in_X6 rfl (cin (decide_eq_true hi)) rfl 1 (by decide) q343 (fun _ h => h) rfl dX6_takes_6 ?_
  refine fg_getN (C := RX0) (T := TX0) (N := 13) (ci := 1) (g := 5) (i := 0) (v := .ref (G.ad 0 0)) hx hb hown hts hX hC in_X0 rfl (cin rfl) rfl 3 (by decide) (hX.2.2.1.F q424) (fun _ h => h) rfl dX6_takes_9 ?_
  refine fg_getN (C := RX4) (T := TX4) (N := 9) (ci := 0) (g := 0) (i := 0) (v := .ref (G.ad 0 4)) hx hb hown hts hX hC in_X4 rfl (cin rfl) rfl 3 (by decide) (hX.2.2.1.F q248) (fun _ h => h) rfl dX6_takes_12 ?_
  refine lv_iconst (v := 0) hx hb dX6_takes_15 rfl ?_
  refine fg_iald (g := 0) (i := 4) (t0 := 0) (v := d 8) hx hb hX hC (cin rfl) rfl rfl (vin_b rfl) rfl dX6_takes_16 ?_
  refine fc_SN (As := [.int (d (93 + 4 * i0)), .int (d 8)]) (rest := []) hx hb hml hown hts hX hC (m_X0_apart (d (93 + 4 * i0)) (d 8)) (hX.2.2.1.M q603) q497 q108 q498 hdS_X0_apart ⟨rfl, rfl⟩ ⟨Nat.le_of_ble_eq_true rfl, Nat.le_of_ble_eq_true rfl⟩ hl.1 rfl (Nat.le_of_ble_eq_true rfl) ⟨Nat.zero_le _, Nat.zero_le _⟩ dX6_takes_17 (fun _ H locs hC => ?_)
  refine W.eq (g2 := F0 m 20 ls [.int (p_apart (d (93 + 4 * i0)) (d 8))]) rfl ?_
  refine lv_iconst (v := 1) hx hb dX6_takes_20 rfl ?_
  refine lv_iadd hx hb dX6_takes_21 ?_
  exact fr_i hx hb hr hlocks hX hC () (congrArg (fun z => some (Value.int z)) (rfl)) rfl dX6_takes_22
set_option maxRecDepth 100000 in
theorem m_X6_deep_0 {l : Launch} {G : Gc} {d kp as un to sc fd tp sh : Row} {sp : Nat → Option Nat} (i0 : Nat) (hi : i0 < 8) : Cm l yX6_deep (ws_ yX6_deep cX6_deep 1 (some .int)) ({ frames := 0, cells := 0, slots := 0, locals := 0 }) (cF G) [.ref (G.ad 20 i0)] (cct G (pg d kp as un to sc fd tp sh) sp) (fun _ : Unit => some (.int 8)) (fun _ => cct G (pg d kp as un to sc fd tp sh) sp) := by
  refine Cm.start (by decide) (Nat.le_of_ble_eq_true rfl) ?_
  intro p e s m below meth c hf hX hC ls hl
  obtain ⟨hx, hb, hr, hml, hown, hts, hlocks⟩ := hf
  have hl : lv_has ls 1 [(0, .ref (G.ad 20 i0))] := hl
  have hown : s.vm.findClass "OwlEars$Strike" = some m.cls := hown
  refine lv_bipush (v := 8) hx hb dX6_deep_0 rfl ?_
  exact fr_i hx hb hr hlocks hX hC () rfl rfl dX6_deep_2
set_option maxRecDepth 100000 in
theorem m_X6_wide_0 {l : Launch} {G : Gc} {d kp as un to sc fd tp sh : Row} {sp : Nat → Option Nat} (i0 : Nat) (hi : i0 < 8) : Cm l yX6_wide (ws_ yX6_wide cX6_wide 1 (some .int)) ({ frames := 0, cells := 0, slots := 0, locals := 0 }) (cF G) [.ref (G.ad 20 i0)] (cct G (pg d kp as un to sc fd tp sh) sp) (fun _ : Unit => some (.int 0)) (fun _ => cct G (pg d kp as un to sc fd tp sh) sp) := by
  refine Cm.start (by decide) (Nat.le_of_ble_eq_true rfl) ?_
  intro p e s m below meth c hf hX hC ls hl
  obtain ⟨hx, hb, hr, hml, hown, hts, hlocks⟩ := hf
  have hl : lv_has ls 1 [(0, .ref (G.ad 20 i0))] := hl
  have hown : s.vm.findClass "OwlEars$Strike" = some m.cls := hown
  refine lv_iconst (v := 0) hx hb dX6_wide_0 rfl ?_
  exact fr_i hx hb hr hlocks hX hC () rfl rfl dX6_wide_1
set_option maxRecDepth 100000 in
theorem m_X6_kind_1 {l : Launch} {G : Gc} {d kp as un to sc fd tp sh : Row} {sp : Nat → Option Nat} (i0 : Nat) (hi : i0 < 8) : Cm l yX6_kind (ws_ yX6_kind cX6_kind 1 (some .int)) ({ frames := 0, cells := 0, slots := 0, locals := 0 }) (cF G) [.ref (G.ad 21 i0)] (cct G (pg d kp as un to sc fd tp sh) sp) (fun _ : Unit => some (.int 0)) (fun _ => cct G (pg d kp as un to sc fd tp sh) sp) := by
  refine Cm.start (by decide) (Nat.le_of_ble_eq_true rfl) ?_
  intro p e s m below meth c hf hX hC ls hl
  obtain ⟨hx, hb, hr, hml, hown, hts, hlocks⟩ := hf
  have hl : lv_has ls 1 [(0, .ref (G.ad 21 i0))] := hl
  have hown : s.vm.findClass "OwlEars$Strike" = some m.cls := hown
  refine lv_iconst (v := 0) hx hb dX6_kind_0 rfl ?_
  exact fr_i hx hb hr hlocks hX hC () rfl rfl dX6_kind_1
set_option maxRecDepth 100000 in
theorem m_X6_takes_1 {l : Launch} {G : Gc} {d kp as un to sc fd tp sh : Row} {sp : Nat → Option Nat} (i0 : Nat) (hi : i0 < 8) : Cm l yX6_takes (ws_ yX6_takes cX6_takes 1 (some .int)) ({ frames := 2, cells := 0, slots := 0, locals := 35 }) (cF G) [.ref (G.ad 21 i0)] (cct G (pg d kp as un to sc fd tp sh) sp) (fun _ : Unit => some (.int (p_apart (d (93 + 4 * i0)) (d 8) + 1))) (fun _ => cct G (pg d kp as un to sc fd tp sh) sp) := by
  refine Cm.start (by decide) (Nat.le_of_ble_eq_true rfl) ?_
  intro p e s m below meth c hf hX hC ls hl
  obtain ⟨hx, hb, hr, hml, hown, hts, hlocks⟩ := hf
  have hl : lv_has ls 1 [(0, .ref (G.ad 21 i0))] := hl
  have hown : s.vm.findClass "OwlEars$Strike" = some m.cls := hown
  refine lv_aload_n hx hb dX6_takes_0 rfl (lv_at hl 0 rfl) ?_
  refine lv_iconst (v := 1) hx hb dX6_takes_1 rfl ?_
  refine fc_U (C := RX7) (owner := "OwlEars$Strike") (x := ⟨"OwlEars$Strike", "told", "(I)I"⟩) (As := [.int 1]) (rest := []) hx hb hml hown hts hX hC (m_X6_told_1_1 i0 hi) (lw5 q592 q595 q600 q593 q117) q602 rfl (by refine ⟨by decide, by decide, ?_⟩; show _ = some 1; decide +kernel) ⟨rfl, rfl⟩ ⟨Nat.le_of_ble_eq_true rfl, Nat.le_of_ble_eq_true rfl⟩ (fx_recv (g := 21) (i := i0) (ci := 7) (q := (RX7, TX7, 3)) hX hC (cin (decide_eq_true hi)) rfl rfl) hl.1 rfl (Nat.le_of_ble_eq_true rfl) ⟨Nat.zero_le _, Nat.zero_le _⟩ dX6_takes_2 (fun _ H locs hC => ?_)
  refine W.eq (g2 := F0 m 5 ls [.int (d (93 + 4 * i0))]) rfl ?_
  refine lv_aload_n hx hb dX6_takes_5 rfl (lv_at hl 0 rfl) ?_
  refine fg_get (C := RX7) (T := TX7) (N := 3) (ci := 7) (g := 21) (i := i0) (v := .ref (G.ad 5 0)) hx hb hown hts hX hC in_X7 rfl (cin (decide_eq_true hi)) rfl 1 (by decide) q343 (fun _ h => h) rfl dX6_takes_6 ?_
  refine fg_getN (C := RX0) (T := TX0) (N := 13) (ci := 1) (g := 5) (i := 0) (v := .ref (G.ad 0 0)) hx hb hown hts hX hC in_X0 rfl (cin rfl) rfl 3 (by decide) (hX.2.2.1.F q424) (fun _ h => h) rfl dX6_takes_9 ?_
  refine fg_getN (C := RX4) (T := TX4) (N := 9) (ci := 0) (g := 0) (i := 0) (v := .ref (G.ad 0 4)) hx hb hown hts hX hC in_X4 rfl (cin rfl) rfl 3 (by decide) (hX.2.2.1.F q248) (fun _ h => h) rfl dX6_takes_12 ?_
  refine lv_iconst (v := 0) hx hb dX6_takes_15 rfl ?_
  refine fg_iald (g := 0) (i := 4) (t0 := 0) (v := d 8) hx hb hX hC (cin rfl) rfl rfl (vin_b rfl) rfl dX6_takes_16 ?_
  refine fc_SN (As := [.int (d (93 + 4 * i0)), .int (d 8)]) (rest := []) hx hb hml hown hts hX hC (m_X0_apart (d (93 + 4 * i0)) (d 8)) (hX.2.2.1.M q603) q497 q108 q498 hdS_X0_apart ⟨rfl, rfl⟩ ⟨Nat.le_of_ble_eq_true rfl, Nat.le_of_ble_eq_true rfl⟩ hl.1 rfl (Nat.le_of_ble_eq_true rfl) ⟨Nat.zero_le _, Nat.zero_le _⟩ dX6_takes_17 (fun _ H locs hC => ?_)
  refine W.eq (g2 := F0 m 20 ls [.int (p_apart (d (93 + 4 * i0)) (d 8))]) rfl ?_
  refine lv_iconst (v := 1) hx hb dX6_takes_20 rfl ?_
  refine lv_iadd hx hb dX6_takes_21 ?_
  exact fr_i hx hb hr hlocks hX hC () (congrArg (fun z => some (Value.int z)) (rfl)) rfl dX6_takes_22
set_option maxRecDepth 100000 in
theorem m_X6_deep_1 {l : Launch} {G : Gc} {d kp as un to sc fd tp sh : Row} {sp : Nat → Option Nat} (i0 : Nat) (hi : i0 < 8) : Cm l yX6_deep (ws_ yX6_deep cX6_deep 1 (some .int)) ({ frames := 0, cells := 0, slots := 0, locals := 0 }) (cF G) [.ref (G.ad 21 i0)] (cct G (pg d kp as un to sc fd tp sh) sp) (fun _ : Unit => some (.int 8)) (fun _ => cct G (pg d kp as un to sc fd tp sh) sp) := by
  refine Cm.start (by decide) (Nat.le_of_ble_eq_true rfl) ?_
  intro p e s m below meth c hf hX hC ls hl
  obtain ⟨hx, hb, hr, hml, hown, hts, hlocks⟩ := hf
  have hl : lv_has ls 1 [(0, .ref (G.ad 21 i0))] := hl
  have hown : s.vm.findClass "OwlEars$Strike" = some m.cls := hown
  refine lv_bipush (v := 8) hx hb dX6_deep_0 rfl ?_
  exact fr_i hx hb hr hlocks hX hC () rfl rfl dX6_deep_2
set_option maxRecDepth 100000 in
theorem m_X6_wide_1 {l : Launch} {G : Gc} {d kp as un to sc fd tp sh : Row} {sp : Nat → Option Nat} (i0 : Nat) (hi : i0 < 8) : Cm l yX6_wide (ws_ yX6_wide cX6_wide 1 (some .int)) ({ frames := 0, cells := 0, slots := 0, locals := 0 }) (cF G) [.ref (G.ad 21 i0)] (cct G (pg d kp as un to sc fd tp sh) sp) (fun _ : Unit => some (.int 0)) (fun _ => cct G (pg d kp as un to sc fd tp sh) sp) := by
  refine Cm.start (by decide) (Nat.le_of_ble_eq_true rfl) ?_
  intro p e s m below meth c hf hX hC ls hl
  obtain ⟨hx, hb, hr, hml, hown, hts, hlocks⟩ := hf
  have hl : lv_has ls 1 [(0, .ref (G.ad 21 i0))] := hl
  have hown : s.vm.findClass "OwlEars$Strike" = some m.cls := hown
  refine lv_iconst (v := 0) hx hb dX6_wide_0 rfl ?_
  exact fr_i hx hb hr hlocks hX hC () rfl rfl dX6_wide_1
set_option maxRecDepth 100000 in
theorem m_X7_kind_1 {l : Launch} {G : Gc} {d kp as un to sc fd tp sh : Row} {sp : Nat → Option Nat} (i0 : Nat) (hi : i0 < 8) : Cm l yX7_kind (ws_ yX7_kind cX7_kind 1 (some .int)) ({ frames := 1, cells := 0, slots := 0, locals := 20 }) (cF G) [.ref (G.ad 21 i0)] (cct G (pg d kp as un to sc fd tp sh) sp) (fun _ : Unit => some (.int 1)) (fun _ => cct G (pg d kp as un to sc fd tp sh) sp) := by
  refine Cm.start (by decide) (Nat.le_of_ble_eq_true rfl) ?_
  intro p e s m below meth c hf hX hC ls hl
  obtain ⟨hx, hb, hr, hml, hown, hts, hlocks⟩ := hf
  have hl : lv_has ls 1 [(0, .ref (G.ad 21 i0))] := hl
  have hown : s.vm.findClass "OwlEars$Sure" = some m.cls := hown
  refine lv_iconst (v := 1) hx hb dX7_kind_0 rfl ?_
  refine lv_aload_n hx hb dX7_kind_1 rfl (lv_at hl 0 rfl) ?_
  refine fc_SU (C := RX7) (fx_at' (ci := 7) (q := (RX7, TX7, 3)) hX rfl).2 (As := []) (rest := [.int 1]) hx hb hml hown hts hX hC (m_X6_kind_1 i0 hi) (lw5 q560 q549 q350 q547 q117) q574 ⟨by decide, by show _ = some 0; decide +kernel⟩ ⟨rfl, rfl⟩ ⟨Nat.le_of_ble_eq_true rfl, Nat.le_of_ble_eq_true rfl⟩ (fx_recv (g := 21) (i := i0) (ci := 7) (q := (RX7, TX7, 3)) hX hC (cin (decide_eq_true hi)) rfl rfl) hl.1 rfl (Nat.le_of_ble_eq_true rfl) ⟨Nat.zero_le _, Nat.zero_le _⟩ dX7_kind_2 (fun _ H locs hC => ?_)
  refine W.eq (g2 := F0 m 5 ls [.int 0, .int 1]) rfl ?_
  refine lv_iadd hx hb dX7_kind_5 ?_
  exact fr_i hx hb hr hlocks hX hC () (congrArg (fun z => some (Value.int z)) (by decide)) rfl dX7_kind_6
set_option maxRecDepth 100000 in
theorem m_X7_takes_1 {l : Launch} {G : Gc} {d kp as un to sc fd tp sh : Row} {sp : Nat → Option Nat} (i0 : Nat) (hi : i0 < 8) : Cm l yX7_takes (ws_ yX7_takes cX7_takes 1 (some .int)) ({ frames := 3, cells := 0, slots := 0, locals := 55 }) (cF G) [.ref (G.ad 21 i0)] (cct G (pg d kp as un to sc fd tp sh) sp) (fun _ : Unit => some (.int ((p_apart (d (93 + 4 * i0)) (d 8)) / 2 + 1))) (fun _ => cct G (pg d kp as un to sc fd tp sh) sp) := by
  refine Cm.start (by decide) (Nat.le_of_ble_eq_true rfl) ?_
  intro p e s m below meth c hf hX hC ls hl
  obtain ⟨hx, hb, hr, hml, hown, hts, hlocks⟩ := hf
  have hl : lv_has ls 1 [(0, .ref (G.ad 21 i0))] := hl
  have hown : s.vm.findClass "OwlEars$Sure" = some m.cls := hown
  refine lv_aload_n hx hb dX7_takes_0 rfl (lv_at hl 0 rfl) ?_
  refine lv_aload_n hx hb dX7_takes_1 rfl (lv_at hl 0 rfl) ?_
  refine fc_SU (C := RX7) (fx_at' (ci := 7) (q := (RX7, TX7, 3)) hX rfl).2 (As := []) (rest := [.ref (G.ad 21 i0)]) hx hb hml hown hts hX hC (m_X6_takes_1 i0 hi) (lw5 q613 q1878 q350 q590 q117) q591 ⟨by decide, by show _ = some 0; decide +kernel⟩ ⟨rfl, rfl⟩ ⟨Nat.le_of_ble_eq_true rfl, Nat.le_of_ble_eq_true rfl⟩ (fx_recv (g := 21) (i := i0) (ci := 7) (q := (RX7, TX7, 3)) hX hC (cin (decide_eq_true hi)) rfl rfl) hl.1 rfl (Nat.le_of_ble_eq_true rfl) ⟨Nat.zero_le _, Nat.zero_le _⟩ dX7_takes_2 (fun _ H locs hC => ?_)
  refine W.eq (g2 := F0 m 5 ls [.int (p_apart (d (93 + 4 * i0)) (d 8) + 1), .ref (G.ad 21 i0)]) rfl ?_
  refine lv_iconst (v := 1) hx hb dX7_takes_5 rfl ?_
  refine lv_isub hx hb dX7_takes_6 ?_
  refine fc_H (C := RX7) (x := ⟨"OwlEars$Sure", "half", "(I)I"⟩) hx hb hml hown hts (hX.2.2.1.D (by decide +kernel) (by decide +kernel) (by decide +kernel) q614) rfl (by decide +kernel) ⟨Nat.le_of_ble_eq_true rfl, Nat.le_of_ble_eq_true rfl⟩ (fx_recv (g := 21) (i := i0) (ci := 7) (q := (RX7, TX7, 3)) hX hC (cin (decide_eq_true hi)) rfl rfl) hl.1 (Nat.le_of_ble_eq_true rfl) dX7_takes_7 ?_
  refine lv_iconst (v := 1) hx hb dX7_takes_10 rfl ?_
  refine lv_iadd hx hb dX7_takes_11 ?_
  exact fr_i hx hb hr hlocks hX hC () (congrArg (fun z => some (Value.int z)) (by rw [i_p1m1])) rfl dX7_takes_12
set_option maxRecDepth 100000 in
theorem m_X7_deep_1 {l : Launch} {G : Gc} {d kp as un to sc fd tp sh : Row} {sp : Nat → Option Nat} (i0 : Nat) (hi : i0 < 8) : Cm l yX7_deep (ws_ yX7_deep cX7_deep 1 (some .int)) ({ frames := 1, cells := 0, slots := 0, locals := 20 }) (cF G) [.ref (G.ad 21 i0)] (cct G (pg d kp as un to sc fd tp sh) sp) (fun _ : Unit => some (.int 12)) (fun _ => cct G (pg d kp as un to sc fd tp sh) sp) := by
  refine Cm.start (by decide) (Nat.le_of_ble_eq_true rfl) ?_
  intro p e s m below meth c hf hX hC ls hl
  obtain ⟨hx, hb, hr, hml, hown, hts, hlocks⟩ := hf
  have hl : lv_has ls 1 [(0, .ref (G.ad 21 i0))] := hl
  have hown : s.vm.findClass "OwlEars$Sure" = some m.cls := hown
  refine lv_aload_n hx hb dX7_deep_0 rfl (lv_at hl 0 rfl) ?_
  refine fc_SU (C := RX7) (fx_at' (ci := 7) (q := (RX7, TX7, 3)) hX rfl).2 (As := []) (rest := []) hx hb hml hown hts hX hC (m_X6_deep_1 i0 hi) (lw5 q666 q655 q350 q653 q117) q678 ⟨by decide, by show _ = some 0; decide +kernel⟩ ⟨rfl, rfl⟩ ⟨Nat.le_of_ble_eq_true rfl, Nat.le_of_ble_eq_true rfl⟩ (fx_recv (g := 21) (i := i0) (ci := 7) (q := (RX7, TX7, 3)) hX hC (cin (decide_eq_true hi)) rfl rfl) hl.1 rfl (Nat.le_of_ble_eq_true rfl) ⟨Nat.zero_le _, Nat.zero_le _⟩ dX7_deep_1 (fun _ H locs hC => ?_)
  refine W.eq (g2 := F0 m 4 ls [.int 8]) rfl ?_
  refine lv_iconst (v := 4) hx hb dX7_deep_4 rfl ?_
  refine lv_iadd hx hb dX7_deep_5 ?_
  exact fr_i hx hb hr hlocks hX hC () (congrArg (fun z => some (Value.int z)) (by decide)) rfl dX7_deep_6
set_option maxRecDepth 100000 in
theorem m_X6_kind_2 {l : Launch} {G : Gc} {d kp as un to sc fd tp sh : Row} {sp : Nat → Option Nat} (i0 : Nat) (hi : i0 < 8) : Cm l yX6_kind (ws_ yX6_kind cX6_kind 1 (some .int)) ({ frames := 0, cells := 0, slots := 0, locals := 0 }) (cF G) [.ref (G.ad 22 i0)] (cct G (pg d kp as un to sc fd tp sh) sp) (fun _ : Unit => some (.int 0)) (fun _ => cct G (pg d kp as un to sc fd tp sh) sp) := by
  refine Cm.start (by decide) (Nat.le_of_ble_eq_true rfl) ?_
  intro p e s m below meth c hf hX hC ls hl
  obtain ⟨hx, hb, hr, hml, hown, hts, hlocks⟩ := hf
  have hl : lv_has ls 1 [(0, .ref (G.ad 22 i0))] := hl
  have hown : s.vm.findClass "OwlEars$Strike" = some m.cls := hown
  refine lv_iconst (v := 0) hx hb dX6_kind_0 rfl ?_
  exact fr_i hx hb hr hlocks hX hC () rfl rfl dX6_kind_1
set_option maxRecDepth 100000 in
theorem m_X6_takes_2 {l : Launch} {G : Gc} {d kp as un to sc fd tp sh : Row} {sp : Nat → Option Nat} (i0 : Nat) (hi : i0 < 8) : Cm l yX6_takes (ws_ yX6_takes cX6_takes 1 (some .int)) ({ frames := 2, cells := 0, slots := 0, locals := 35 }) (cF G) [.ref (G.ad 22 i0)] (cct G (pg d kp as un to sc fd tp sh) sp) (fun _ : Unit => some (.int (p_apart (d (93 + 4 * i0)) (d 8) + 1))) (fun _ => cct G (pg d kp as un to sc fd tp sh) sp) := by
  refine Cm.start (by decide) (Nat.le_of_ble_eq_true rfl) ?_
  intro p e s m below meth c hf hX hC ls hl
  obtain ⟨hx, hb, hr, hml, hown, hts, hlocks⟩ := hf
  have hl : lv_has ls 1 [(0, .ref (G.ad 22 i0))] := hl
  have hown : s.vm.findClass "OwlEars$Strike" = some m.cls := hown
  refine lv_aload_n hx hb dX6_takes_0 rfl (lv_at hl 0 rfl) ?_
  refine lv_iconst (v := 1) hx hb dX6_takes_1 rfl ?_
  refine fc_U (C := RX8) (owner := "OwlEars$Strike") (x := ⟨"OwlEars$Strike", "told", "(I)I"⟩) (As := [.int 1]) (rest := []) hx hb hml hown hts hX hC (m_X6_told_2_1 i0 hi) (lw5 q592 q595 q596 q593 q117) q602 rfl (by refine ⟨by decide, by decide, ?_⟩; show _ = some 1; decide +kernel) ⟨rfl, rfl⟩ ⟨Nat.le_of_ble_eq_true rfl, Nat.le_of_ble_eq_true rfl⟩ (fx_recv (g := 22) (i := i0) (ci := 8) (q := (RX8, TX8, 3)) hX hC (cin (decide_eq_true hi)) rfl rfl) hl.1 rfl (Nat.le_of_ble_eq_true rfl) ⟨Nat.zero_le _, Nat.zero_le _⟩ dX6_takes_2 (fun _ H locs hC => ?_)
  refine W.eq (g2 := F0 m 5 ls [.int (d (93 + 4 * i0))]) rfl ?_
  refine lv_aload_n hx hb dX6_takes_5 rfl (lv_at hl 0 rfl) ?_
  refine fg_get (C := RX8) (T := TX8) (N := 3) (ci := 8) (g := 22) (i := i0) (v := .ref (G.ad 5 0)) hx hb hown hts hX hC in_X8 rfl (cin (decide_eq_true hi)) rfl 1 (by decide) q343 (fun _ h => h) rfl dX6_takes_6 ?_
  refine fg_getN (C := RX0) (T := TX0) (N := 13) (ci := 1) (g := 5) (i := 0) (v := .ref (G.ad 0 0)) hx hb hown hts hX hC in_X0 rfl (cin rfl) rfl 3 (by decide) (hX.2.2.1.F q424) (fun _ h => h) rfl dX6_takes_9 ?_
  refine fg_getN (C := RX4) (T := TX4) (N := 9) (ci := 0) (g := 0) (i := 0) (v := .ref (G.ad 0 4)) hx hb hown hts hX hC in_X4 rfl (cin rfl) rfl 3 (by decide) (hX.2.2.1.F q248) (fun _ h => h) rfl dX6_takes_12 ?_
  refine lv_iconst (v := 0) hx hb dX6_takes_15 rfl ?_
  refine fg_iald (g := 0) (i := 4) (t0 := 0) (v := d 8) hx hb hX hC (cin rfl) rfl rfl (vin_b rfl) rfl dX6_takes_16 ?_
  refine fc_SN (As := [.int (d (93 + 4 * i0)), .int (d 8)]) (rest := []) hx hb hml hown hts hX hC (m_X0_apart (d (93 + 4 * i0)) (d 8)) (hX.2.2.1.M q603) q497 q108 q498 hdS_X0_apart ⟨rfl, rfl⟩ ⟨Nat.le_of_ble_eq_true rfl, Nat.le_of_ble_eq_true rfl⟩ hl.1 rfl (Nat.le_of_ble_eq_true rfl) ⟨Nat.zero_le _, Nat.zero_le _⟩ dX6_takes_17 (fun _ H locs hC => ?_)
  refine W.eq (g2 := F0 m 20 ls [.int (p_apart (d (93 + 4 * i0)) (d 8))]) rfl ?_
  refine lv_iconst (v := 1) hx hb dX6_takes_20 rfl ?_
  refine lv_iadd hx hb dX6_takes_21 ?_
  exact fr_i hx hb hr hlocks hX hC () (congrArg (fun z => some (Value.int z)) (rfl)) rfl dX6_takes_22
set_option maxRecDepth 100000 in
theorem m_X6_deep_2 {l : Launch} {G : Gc} {d kp as un to sc fd tp sh : Row} {sp : Nat → Option Nat} (i0 : Nat) (hi : i0 < 8) : Cm l yX6_deep (ws_ yX6_deep cX6_deep 1 (some .int)) ({ frames := 0, cells := 0, slots := 0, locals := 0 }) (cF G) [.ref (G.ad 22 i0)] (cct G (pg d kp as un to sc fd tp sh) sp) (fun _ : Unit => some (.int 8)) (fun _ => cct G (pg d kp as un to sc fd tp sh) sp) := by
  refine Cm.start (by decide) (Nat.le_of_ble_eq_true rfl) ?_
  intro p e s m below meth c hf hX hC ls hl
  obtain ⟨hx, hb, hr, hml, hown, hts, hlocks⟩ := hf
  have hl : lv_has ls 1 [(0, .ref (G.ad 22 i0))] := hl
  have hown : s.vm.findClass "OwlEars$Strike" = some m.cls := hown
  refine lv_bipush (v := 8) hx hb dX6_deep_0 rfl ?_
  exact fr_i hx hb hr hlocks hX hC () rfl rfl dX6_deep_2
set_option maxRecDepth 100000 in
theorem m_X6_wide_2 {l : Launch} {G : Gc} {d kp as un to sc fd tp sh : Row} {sp : Nat → Option Nat} (i0 : Nat) (hi : i0 < 8) : Cm l yX6_wide (ws_ yX6_wide cX6_wide 1 (some .int)) ({ frames := 0, cells := 0, slots := 0, locals := 0 }) (cF G) [.ref (G.ad 22 i0)] (cct G (pg d kp as un to sc fd tp sh) sp) (fun _ : Unit => some (.int 0)) (fun _ => cct G (pg d kp as un to sc fd tp sh) sp) := by
  refine Cm.start (by decide) (Nat.le_of_ble_eq_true rfl) ?_
  intro p e s m below meth c hf hX hC ls hl
  obtain ⟨hx, hb, hr, hml, hown, hts, hlocks⟩ := hf
  have hl : lv_has ls 1 [(0, .ref (G.ad 22 i0))] := hl
  have hown : s.vm.findClass "OwlEars$Strike" = some m.cls := hown
  refine lv_iconst (v := 0) hx hb dX6_wide_0 rfl ?_
  exact fr_i hx hb hr hlocks hX hC () rfl rfl dX6_wide_1
set_option maxRecDepth 100000 in
theorem m_X8_kind_2 {l : Launch} {G : Gc} {d kp as un to sc fd tp sh : Row} {sp : Nat → Option Nat} (i0 : Nat) (hi : i0 < 8) : Cm l yX8_kind (ws_ yX8_kind cX8_kind 1 (some .int)) ({ frames := 1, cells := 0, slots := 0, locals := 20 }) (cF G) [.ref (G.ad 22 i0)] (cct G (pg d kp as un to sc fd tp sh) sp) (fun _ : Unit => some (.int 2)) (fun _ => cct G (pg d kp as un to sc fd tp sh) sp) := by
  refine Cm.start (by decide) (Nat.le_of_ble_eq_true rfl) ?_
  intro p e s m below meth c hf hX hC ls hl
  obtain ⟨hx, hb, hr, hml, hown, hts, hlocks⟩ := hf
  have hl : lv_has ls 1 [(0, .ref (G.ad 22 i0))] := hl
  have hown : s.vm.findClass "OwlEars$Aslant" = some m.cls := hown
  refine lv_iconst (v := 2) hx hb dX8_kind_0 rfl ?_
  refine lv_aload_n hx hb dX8_kind_1 rfl (lv_at hl 0 rfl) ?_
  refine fc_SU (C := RX8) (fx_at' (ci := 8) (q := (RX8, TX8, 3)) hX rfl).2 (As := []) (rest := [.int 2]) hx hb hml hown hts hX hC (m_X6_kind_2 i0 hi) (lw5 q553 q549 q362 q547 q117) q574 ⟨by decide, by show _ = some 0; decide +kernel⟩ ⟨rfl, rfl⟩ ⟨Nat.le_of_ble_eq_true rfl, Nat.le_of_ble_eq_true rfl⟩ (fx_recv (g := 22) (i := i0) (ci := 8) (q := (RX8, TX8, 3)) hX hC (cin (decide_eq_true hi)) rfl rfl) hl.1 rfl (Nat.le_of_ble_eq_true rfl) ⟨Nat.zero_le _, Nat.zero_le _⟩ dX8_kind_2 (fun _ H locs hC => ?_)
  refine W.eq (g2 := F0 m 5 ls [.int 0, .int 2]) rfl ?_
  refine lv_iadd hx hb dX8_kind_5 ?_
  exact fr_i hx hb hr hlocks hX hC () (congrArg (fun z => some (Value.int z)) (by decide)) rfl dX8_kind_6
set_option maxRecDepth 100000 in
theorem m_X8_takes_2 {l : Launch} {G : Gc} {d kp as un to sc fd tp sh : Row} {sp : Nat → Option Nat} (i0 : Nat) (hi : i0 < 8) : Cm l yX8_takes (ws_ yX8_takes cX8_takes 1 (some .int)) ({ frames := 3, cells := 0, slots := 0, locals := 55 }) (cF G) [.ref (G.ad 22 i0)] (cct G (pg d kp as un to sc fd tp sh) sp) (fun _ : Unit => some (.int (p_apart (d (93 + 4 * i0)) (d 8) + 2))) (fun _ => cct G (pg d kp as un to sc fd tp sh) sp) := by
  refine Cm.start (by decide) (Nat.le_of_ble_eq_true rfl) ?_
  intro p e s m below meth c hf hX hC ls hl
  obtain ⟨hx, hb, hr, hml, hown, hts, hlocks⟩ := hf
  have hl : lv_has ls 1 [(0, .ref (G.ad 22 i0))] := hl
  have hown : s.vm.findClass "OwlEars$Aslant" = some m.cls := hown
  refine lv_aload_n hx hb dX8_takes_0 rfl (lv_at hl 0 rfl) ?_
  refine fc_SU (C := RX8) (fx_at' (ci := 8) (q := (RX8, TX8, 3)) hX rfl).2 (As := []) (rest := []) hx hb hml hown hts hX hC (m_X6_takes_2 i0 hi) (lw5 q589 q1878 q362 q590 q117) q591 ⟨by decide, by show _ = some 0; decide +kernel⟩ ⟨rfl, rfl⟩ ⟨Nat.le_of_ble_eq_true rfl, Nat.le_of_ble_eq_true rfl⟩ (fx_recv (g := 22) (i := i0) (ci := 8) (q := (RX8, TX8, 3)) hX hC (cin (decide_eq_true hi)) rfl rfl) hl.1 rfl (Nat.le_of_ble_eq_true rfl) ⟨Nat.zero_le _, Nat.zero_le _⟩ dX8_takes_1 (fun _ H locs hC => ?_)
  refine W.eq (g2 := F0 m 4 ls [.int (p_apart (d (93 + 4 * i0)) (d 8) + 1)]) rfl ?_
  refine lv_iconst (v := 1) hx hb dX8_takes_4 rfl ?_
  refine lv_iadd hx hb dX8_takes_5 ?_
  exact fr_i hx hb hr hlocks hX hC () (congrArg (fun z => some (Value.int z)) ((Int32.add_assoc _ 1 1).symm)) rfl dX8_takes_6
set_option maxRecDepth 100000 in
theorem m_X8_deep_2 {l : Launch} {G : Gc} {d kp as un to sc fd tp sh : Row} {sp : Nat → Option Nat} (i0 : Nat) (hi : i0 < 8) : Cm l yX8_deep (ws_ yX8_deep cX8_deep 1 (some .int)) ({ frames := 1, cells := 0, slots := 0, locals := 20 }) (cF G) [.ref (G.ad 22 i0)] (cct G (pg d kp as un to sc fd tp sh) sp) (fun _ : Unit => some (.int 6)) (fun _ => cct G (pg d kp as un to sc fd tp sh) sp) := by
  refine Cm.start (by decide) (Nat.le_of_ble_eq_true rfl) ?_
  intro p e s m below meth c hf hX hC ls hl
  obtain ⟨hx, hb, hr, hml, hown, hts, hlocks⟩ := hf
  have hl : lv_has ls 1 [(0, .ref (G.ad 22 i0))] := hl
  have hown : s.vm.findClass "OwlEars$Aslant" = some m.cls := hown
  refine lv_aload_n hx hb dX8_deep_0 rfl (lv_at hl 0 rfl) ?_
  refine fc_SU (C := RX8) (fx_at' (ci := 8) (q := (RX8, TX8, 3)) hX rfl).2 (As := []) (rest := []) hx hb hml hown hts hX hC (m_X6_deep_2 i0 hi) (lw5 q659 q655 q362 q653 q117) q678 ⟨by decide, by show _ = some 0; decide +kernel⟩ ⟨rfl, rfl⟩ ⟨Nat.le_of_ble_eq_true rfl, Nat.le_of_ble_eq_true rfl⟩ (fx_recv (g := 22) (i := i0) (ci := 8) (q := (RX8, TX8, 3)) hX hC (cin (decide_eq_true hi)) rfl rfl) hl.1 rfl (Nat.le_of_ble_eq_true rfl) ⟨Nat.zero_le _, Nat.zero_le _⟩ dX8_deep_1 (fun _ H locs hC => ?_)
  refine W.eq (g2 := F0 m 4 ls [.int 8]) rfl ?_
  refine lv_iconst (v := 2) hx hb dX8_deep_4 rfl ?_
  refine lv_isub hx hb dX8_deep_5 ?_
  exact fr_i hx hb hr hlocks hX hC () (congrArg (fun z => some (Value.int z)) (by decide)) rfl dX8_deep_6
set_option maxRecDepth 100000 in
theorem m_X8_wide_2 {l : Launch} {G : Gc} {d kp as un to sc fd tp sh : Row} {sp : Nat → Option Nat} (i0 : Nat) (hi : i0 < 8) : Cm l yX8_wide (ws_ yX8_wide cX8_wide 1 (some .int)) ({ frames := 1, cells := 0, slots := 0, locals := 20 }) (cF G) [.ref (G.ad 22 i0)] (cct G (pg d kp as un to sc fd tp sh) sp) (fun _ : Unit => some (.int 1)) (fun _ => cct G (pg d kp as un to sc fd tp sh) sp) := by
  refine Cm.start (by decide) (Nat.le_of_ble_eq_true rfl) ?_
  intro p e s m below meth c hf hX hC ls hl
  obtain ⟨hx, hb, hr, hml, hown, hts, hlocks⟩ := hf
  have hl : lv_has ls 1 [(0, .ref (G.ad 22 i0))] := hl
  have hown : s.vm.findClass "OwlEars$Aslant" = some m.cls := hown
  refine lv_iconst (v := 1) hx hb dX8_wide_0 rfl ?_
  refine lv_aload_n hx hb dX8_wide_1 rfl (lv_at hl 0 rfl) ?_
  refine fc_SU (C := RX8) (fx_at' (ci := 8) (q := (RX8, TX8, 3)) hX rfl).2 (As := []) (rest := [.int 1]) hx hb hml hown hts hX hC (m_X6_wide_2 i0 hi) (lw5 q686 q682 q362 q680 q117) q695 ⟨by decide, by show _ = some 0; decide +kernel⟩ ⟨rfl, rfl⟩ ⟨Nat.le_of_ble_eq_true rfl, Nat.le_of_ble_eq_true rfl⟩ (fx_recv (g := 22) (i := i0) (ci := 8) (q := (RX8, TX8, 3)) hX hC (cin (decide_eq_true hi)) rfl rfl) hl.1 rfl (Nat.le_of_ble_eq_true rfl) ⟨Nat.zero_le _, Nat.zero_le _⟩ dX8_wide_2 (fun _ H locs hC => ?_)
  refine W.eq (g2 := F0 m 5 ls [.int 0, .int 1]) rfl ?_
  refine lv_iadd hx hb dX8_wide_5 ?_
  exact fr_i hx hb hr hlocks hX hC () (congrArg (fun z => some (Value.int z)) (by decide)) rfl dX8_wide_6
set_option maxRecDepth 100000 in
theorem m_X6_kind_3 {l : Launch} {G : Gc} {d kp as un to sc fd tp sh : Row} {sp : Nat → Option Nat} (i0 : Nat) (hi : i0 < 8) : Cm l yX6_kind (ws_ yX6_kind cX6_kind 1 (some .int)) ({ frames := 0, cells := 0, slots := 0, locals := 0 }) (cF G) [.ref (G.ad 23 i0)] (cct G (pg d kp as un to sc fd tp sh) sp) (fun _ : Unit => some (.int 0)) (fun _ => cct G (pg d kp as un to sc fd tp sh) sp) := by
  refine Cm.start (by decide) (Nat.le_of_ble_eq_true rfl) ?_
  intro p e s m below meth c hf hX hC ls hl
  obtain ⟨hx, hb, hr, hml, hown, hts, hlocks⟩ := hf
  have hl : lv_has ls 1 [(0, .ref (G.ad 23 i0))] := hl
  have hown : s.vm.findClass "OwlEars$Strike" = some m.cls := hown
  refine lv_iconst (v := 0) hx hb dX6_kind_0 rfl ?_
  exact fr_i hx hb hr hlocks hX hC () rfl rfl dX6_kind_1
set_option maxRecDepth 100000 in
theorem m_X6_takes_3 {l : Launch} {G : Gc} {d kp as un to sc fd tp sh : Row} {sp : Nat → Option Nat} (i0 : Nat) (hi : i0 < 8) : Cm l yX6_takes (ws_ yX6_takes cX6_takes 1 (some .int)) ({ frames := 2, cells := 0, slots := 0, locals := 35 }) (cF G) [.ref (G.ad 23 i0)] (cct G (pg d kp as un to sc fd tp sh) sp) (fun _ : Unit => some (.int (p_apart (d (93 + 4 * i0)) (d 8) + 1))) (fun _ => cct G (pg d kp as un to sc fd tp sh) sp) := by
  refine Cm.start (by decide) (Nat.le_of_ble_eq_true rfl) ?_
  intro p e s m below meth c hf hX hC ls hl
  obtain ⟨hx, hb, hr, hml, hown, hts, hlocks⟩ := hf
  have hl : lv_has ls 1 [(0, .ref (G.ad 23 i0))] := hl
  have hown : s.vm.findClass "OwlEars$Strike" = some m.cls := hown
  refine lv_aload_n hx hb dX6_takes_0 rfl (lv_at hl 0 rfl) ?_
  refine lv_iconst (v := 1) hx hb dX6_takes_1 rfl ?_
  refine fc_U (C := RX9) (owner := "OwlEars$Strike") (x := ⟨"OwlEars$Strike", "told", "(I)I"⟩) (As := [.int 1]) (rest := []) hx hb hml hown hts hX hC (m_X6_told_3_1 i0 hi) (lw5 q592 q595 q598 q593 q117) q602 rfl (by refine ⟨by decide, by decide, ?_⟩; show _ = some 1; decide +kernel) ⟨rfl, rfl⟩ ⟨Nat.le_of_ble_eq_true rfl, Nat.le_of_ble_eq_true rfl⟩ (fx_recv (g := 23) (i := i0) (ci := 9) (q := (RX9, TX9, 4)) hX hC (cin (decide_eq_true hi)) rfl rfl) hl.1 rfl (Nat.le_of_ble_eq_true rfl) ⟨Nat.zero_le _, Nat.zero_le _⟩ dX6_takes_2 (fun _ H locs hC => ?_)
  refine W.eq (g2 := F0 m 5 ls [.int (d (93 + 4 * i0))]) rfl ?_
  refine lv_aload_n hx hb dX6_takes_5 rfl (lv_at hl 0 rfl) ?_
  refine fg_get (C := RX9) (T := TX9) (N := 4) (ci := 9) (g := 23) (i := i0) (v := .ref (G.ad 5 0)) hx hb hown hts hX hC in_X9 rfl (cin (decide_eq_true hi)) rfl 1 (by decide) q343 (fun _ h => h) rfl dX6_takes_6 ?_
  refine fg_getN (C := RX0) (T := TX0) (N := 13) (ci := 1) (g := 5) (i := 0) (v := .ref (G.ad 0 0)) hx hb hown hts hX hC in_X0 rfl (cin rfl) rfl 3 (by decide) (hX.2.2.1.F q424) (fun _ h => h) rfl dX6_takes_9 ?_
  refine fg_getN (C := RX4) (T := TX4) (N := 9) (ci := 0) (g := 0) (i := 0) (v := .ref (G.ad 0 4)) hx hb hown hts hX hC in_X4 rfl (cin rfl) rfl 3 (by decide) (hX.2.2.1.F q248) (fun _ h => h) rfl dX6_takes_12 ?_
  refine lv_iconst (v := 0) hx hb dX6_takes_15 rfl ?_
  refine fg_iald (g := 0) (i := 4) (t0 := 0) (v := d 8) hx hb hX hC (cin rfl) rfl rfl (vin_b rfl) rfl dX6_takes_16 ?_
  refine fc_SN (As := [.int (d (93 + 4 * i0)), .int (d 8)]) (rest := []) hx hb hml hown hts hX hC (m_X0_apart (d (93 + 4 * i0)) (d 8)) (hX.2.2.1.M q603) q497 q108 q498 hdS_X0_apart ⟨rfl, rfl⟩ ⟨Nat.le_of_ble_eq_true rfl, Nat.le_of_ble_eq_true rfl⟩ hl.1 rfl (Nat.le_of_ble_eq_true rfl) ⟨Nat.zero_le _, Nat.zero_le _⟩ dX6_takes_17 (fun _ H locs hC => ?_)
  refine W.eq (g2 := F0 m 20 ls [.int (p_apart (d (93 + 4 * i0)) (d 8))]) rfl ?_
  refine lv_iconst (v := 1) hx hb dX6_takes_20 rfl ?_
  refine lv_iadd hx hb dX6_takes_21 ?_
  exact fr_i hx hb hr hlocks hX hC () (congrArg (fun z => some (Value.int z)) (rfl)) rfl dX6_takes_22
set_option maxRecDepth 100000 in
theorem m_X6_deep_3 {l : Launch} {G : Gc} {d kp as un to sc fd tp sh : Row} {sp : Nat → Option Nat} (i0 : Nat) (hi : i0 < 8) : Cm l yX6_deep (ws_ yX6_deep cX6_deep 1 (some .int)) ({ frames := 0, cells := 0, slots := 0, locals := 0 }) (cF G) [.ref (G.ad 23 i0)] (cct G (pg d kp as un to sc fd tp sh) sp) (fun _ : Unit => some (.int 8)) (fun _ => cct G (pg d kp as un to sc fd tp sh) sp) := by
  refine Cm.start (by decide) (Nat.le_of_ble_eq_true rfl) ?_
  intro p e s m below meth c hf hX hC ls hl
  obtain ⟨hx, hb, hr, hml, hown, hts, hlocks⟩ := hf
  have hl : lv_has ls 1 [(0, .ref (G.ad 23 i0))] := hl
  have hown : s.vm.findClass "OwlEars$Strike" = some m.cls := hown
  refine lv_bipush (v := 8) hx hb dX6_deep_0 rfl ?_
  exact fr_i hx hb hr hlocks hX hC () rfl rfl dX6_deep_2
set_option maxRecDepth 100000 in
theorem m_X6_wide_3 {l : Launch} {G : Gc} {d kp as un to sc fd tp sh : Row} {sp : Nat → Option Nat} (i0 : Nat) (hi : i0 < 8) : Cm l yX6_wide (ws_ yX6_wide cX6_wide 1 (some .int)) ({ frames := 0, cells := 0, slots := 0, locals := 0 }) (cF G) [.ref (G.ad 23 i0)] (cct G (pg d kp as un to sc fd tp sh) sp) (fun _ : Unit => some (.int 0)) (fun _ => cct G (pg d kp as un to sc fd tp sh) sp) := by
  refine Cm.start (by decide) (Nat.le_of_ble_eq_true rfl) ?_
  intro p e s m below meth c hf hX hC ls hl
  obtain ⟨hx, hb, hr, hml, hown, hts, hlocks⟩ := hf
  have hl : lv_has ls 1 [(0, .ref (G.ad 23 i0))] := hl
  have hown : s.vm.findClass "OwlEars$Strike" = some m.cls := hown
  refine lv_iconst (v := 0) hx hb dX6_wide_0 rfl ?_
  exact fr_i hx hb hr hlocks hX hC () rfl rfl dX6_wide_1
set_option maxRecDepth 100000 in
theorem m_X8_kind_3 {l : Launch} {G : Gc} {d kp as un to sc fd tp sh : Row} {sp : Nat → Option Nat} (i0 : Nat) (hi : i0 < 8) : Cm l yX8_kind (ws_ yX8_kind cX8_kind 1 (some .int)) ({ frames := 1, cells := 0, slots := 0, locals := 20 }) (cF G) [.ref (G.ad 23 i0)] (cct G (pg d kp as un to sc fd tp sh) sp) (fun _ : Unit => some (.int 2)) (fun _ => cct G (pg d kp as un to sc fd tp sh) sp) := by
  refine Cm.start (by decide) (Nat.le_of_ble_eq_true rfl) ?_
  intro p e s m below meth c hf hX hC ls hl
  obtain ⟨hx, hb, hr, hml, hown, hts, hlocks⟩ := hf
  have hl : lv_has ls 1 [(0, .ref (G.ad 23 i0))] := hl
  have hown : s.vm.findClass "OwlEars$Aslant" = some m.cls := hown
  refine lv_iconst (v := 2) hx hb dX8_kind_0 rfl ?_
  refine lv_aload_n hx hb dX8_kind_1 rfl (lv_at hl 0 rfl) ?_
  refine fc_SU (C := RX9) (fx_at' (ci := 9) (q := (RX9, TX9, 4)) hX rfl).2 (As := []) (rest := [.int 2]) hx hb hml hown hts hX hC (m_X6_kind_3 i0 hi) (lw5 q553 q549 q362 q547 q117) q574 ⟨by decide, by show _ = some 0; decide +kernel⟩ ⟨rfl, rfl⟩ ⟨Nat.le_of_ble_eq_true rfl, Nat.le_of_ble_eq_true rfl⟩ (fx_recv (g := 23) (i := i0) (ci := 9) (q := (RX9, TX9, 4)) hX hC (cin (decide_eq_true hi)) rfl rfl) hl.1 rfl (Nat.le_of_ble_eq_true rfl) ⟨Nat.zero_le _, Nat.zero_le _⟩ dX8_kind_2 (fun _ H locs hC => ?_)
  refine W.eq (g2 := F0 m 5 ls [.int 0, .int 2]) rfl ?_
  refine lv_iadd hx hb dX8_kind_5 ?_
  exact fr_i hx hb hr hlocks hX hC () (congrArg (fun z => some (Value.int z)) (by decide)) rfl dX8_kind_6
set_option maxRecDepth 100000 in
theorem m_X8_takes_3 {l : Launch} {G : Gc} {d kp as un to sc fd tp sh : Row} {sp : Nat → Option Nat} (i0 : Nat) (hi : i0 < 8) : Cm l yX8_takes (ws_ yX8_takes cX8_takes 1 (some .int)) ({ frames := 3, cells := 0, slots := 0, locals := 55 }) (cF G) [.ref (G.ad 23 i0)] (cct G (pg d kp as un to sc fd tp sh) sp) (fun _ : Unit => some (.int (p_apart (d (93 + 4 * i0)) (d 8) + 2))) (fun _ => cct G (pg d kp as un to sc fd tp sh) sp) := by
  refine Cm.start (by decide) (Nat.le_of_ble_eq_true rfl) ?_
  intro p e s m below meth c hf hX hC ls hl
  obtain ⟨hx, hb, hr, hml, hown, hts, hlocks⟩ := hf
  have hl : lv_has ls 1 [(0, .ref (G.ad 23 i0))] := hl
  have hown : s.vm.findClass "OwlEars$Aslant" = some m.cls := hown
  refine lv_aload_n hx hb dX8_takes_0 rfl (lv_at hl 0 rfl) ?_
  refine fc_SU (C := RX9) (fx_at' (ci := 9) (q := (RX9, TX9, 4)) hX rfl).2 (As := []) (rest := []) hx hb hml hown hts hX hC (m_X6_takes_3 i0 hi) (lw5 q589 q1878 q362 q590 q117) q591 ⟨by decide, by show _ = some 0; decide +kernel⟩ ⟨rfl, rfl⟩ ⟨Nat.le_of_ble_eq_true rfl, Nat.le_of_ble_eq_true rfl⟩ (fx_recv (g := 23) (i := i0) (ci := 9) (q := (RX9, TX9, 4)) hX hC (cin (decide_eq_true hi)) rfl rfl) hl.1 rfl (Nat.le_of_ble_eq_true rfl) ⟨Nat.zero_le _, Nat.zero_le _⟩ dX8_takes_1 (fun _ H locs hC => ?_)
  refine W.eq (g2 := F0 m 4 ls [.int (p_apart (d (93 + 4 * i0)) (d 8) + 1)]) rfl ?_
  refine lv_iconst (v := 1) hx hb dX8_takes_4 rfl ?_
  refine lv_iadd hx hb dX8_takes_5 ?_
  exact fr_i hx hb hr hlocks hX hC () (congrArg (fun z => some (Value.int z)) ((Int32.add_assoc _ 1 1).symm)) rfl dX8_takes_6
set_option maxRecDepth 100000 in
theorem m_X8_deep_3 {l : Launch} {G : Gc} {d kp as un to sc fd tp sh : Row} {sp : Nat → Option Nat} (i0 : Nat) (hi : i0 < 8) : Cm l yX8_deep (ws_ yX8_deep cX8_deep 1 (some .int)) ({ frames := 1, cells := 0, slots := 0, locals := 20 }) (cF G) [.ref (G.ad 23 i0)] (cct G (pg d kp as un to sc fd tp sh) sp) (fun _ : Unit => some (.int 6)) (fun _ => cct G (pg d kp as un to sc fd tp sh) sp) := by
  refine Cm.start (by decide) (Nat.le_of_ble_eq_true rfl) ?_
  intro p e s m below meth c hf hX hC ls hl
  obtain ⟨hx, hb, hr, hml, hown, hts, hlocks⟩ := hf
  have hl : lv_has ls 1 [(0, .ref (G.ad 23 i0))] := hl
  have hown : s.vm.findClass "OwlEars$Aslant" = some m.cls := hown
  refine lv_aload_n hx hb dX8_deep_0 rfl (lv_at hl 0 rfl) ?_
  refine fc_SU (C := RX9) (fx_at' (ci := 9) (q := (RX9, TX9, 4)) hX rfl).2 (As := []) (rest := []) hx hb hml hown hts hX hC (m_X6_deep_3 i0 hi) (lw5 q659 q655 q362 q653 q117) q678 ⟨by decide, by show _ = some 0; decide +kernel⟩ ⟨rfl, rfl⟩ ⟨Nat.le_of_ble_eq_true rfl, Nat.le_of_ble_eq_true rfl⟩ (fx_recv (g := 23) (i := i0) (ci := 9) (q := (RX9, TX9, 4)) hX hC (cin (decide_eq_true hi)) rfl rfl) hl.1 rfl (Nat.le_of_ble_eq_true rfl) ⟨Nat.zero_le _, Nat.zero_le _⟩ dX8_deep_1 (fun _ H locs hC => ?_)
  refine W.eq (g2 := F0 m 4 ls [.int 8]) rfl ?_
  refine lv_iconst (v := 2) hx hb dX8_deep_4 rfl ?_
  refine lv_isub hx hb dX8_deep_5 ?_
  exact fr_i hx hb hr hlocks hX hC () (congrArg (fun z => some (Value.int z)) (by decide)) rfl dX8_deep_6
set_option maxRecDepth 100000 in
theorem m_X8_wide_3 {l : Launch} {G : Gc} {d kp as un to sc fd tp sh : Row} {sp : Nat → Option Nat} (i0 : Nat) (hi : i0 < 8) : Cm l yX8_wide (ws_ yX8_wide cX8_wide 1 (some .int)) ({ frames := 1, cells := 0, slots := 0, locals := 20 }) (cF G) [.ref (G.ad 23 i0)] (cct G (pg d kp as un to sc fd tp sh) sp) (fun _ : Unit => some (.int 1)) (fun _ => cct G (pg d kp as un to sc fd tp sh) sp) := by
  refine Cm.start (by decide) (Nat.le_of_ble_eq_true rfl) ?_
  intro p e s m below meth c hf hX hC ls hl
  obtain ⟨hx, hb, hr, hml, hown, hts, hlocks⟩ := hf
  have hl : lv_has ls 1 [(0, .ref (G.ad 23 i0))] := hl
  have hown : s.vm.findClass "OwlEars$Aslant" = some m.cls := hown
  refine lv_iconst (v := 1) hx hb dX8_wide_0 rfl ?_
  refine lv_aload_n hx hb dX8_wide_1 rfl (lv_at hl 0 rfl) ?_
  refine fc_SU (C := RX9) (fx_at' (ci := 9) (q := (RX9, TX9, 4)) hX rfl).2 (As := []) (rest := [.int 1]) hx hb hml hown hts hX hC (m_X6_wide_3 i0 hi) (lw5 q686 q682 q362 q680 q117) q695 ⟨by decide, by show _ = some 0; decide +kernel⟩ ⟨rfl, rfl⟩ ⟨Nat.le_of_ble_eq_true rfl, Nat.le_of_ble_eq_true rfl⟩ (fx_recv (g := 23) (i := i0) (ci := 9) (q := (RX9, TX9, 4)) hX hC (cin (decide_eq_true hi)) rfl rfl) hl.1 rfl (Nat.le_of_ble_eq_true rfl) ⟨Nat.zero_le _, Nat.zero_le _⟩ dX8_wide_2 (fun _ H locs hC => ?_)
  refine W.eq (g2 := F0 m 5 ls [.int 0, .int 1]) rfl ?_
  refine lv_iadd hx hb dX8_wide_5 ?_
  exact fr_i hx hb hr hlocks hX hC () (congrArg (fun z => some (Value.int z)) (by decide)) rfl dX8_wide_6
set_option maxRecDepth 100000 in
theorem m_X9_kind_3 {l : Launch} {G : Gc} {d kp as un to sc fd tp sh : Row} {sp : Nat → Option Nat} (i0 : Nat) (hi : i0 < 8) : Cm l yX9_kind (ws_ yX9_kind cX9_kind 1 (some .int)) ({ frames := 2, cells := 0, slots := 0, locals := 40 }) (cF G) [.ref (G.ad 23 i0)] (cct G (pg d kp as un to sc fd tp sh) sp) (fun _ : Unit => some (.int 3)) (fun _ => cct G (pg d kp as un to sc fd tp sh) sp) := by
  refine Cm.start (by decide) (Nat.le_of_ble_eq_true rfl) ?_
  intro p e s m below meth c hf hX hC ls hl
  obtain ⟨hx, hb, hr, hml, hown, hts, hlocks⟩ := hf
  have hl : lv_has ls 1 [(0, .ref (G.ad 23 i0))] := hl
  have hown : s.vm.findClass "OwlEars$Late" = some m.cls := hown
  refine lv_iconst (v := 1) hx hb dX9_kind_0 rfl ?_
  refine lv_aload_n hx hb dX9_kind_1 rfl (lv_at hl 0 rfl) ?_
  refine fc_SU (C := RX9) (fx_at' (ci := 9) (q := (RX9, TX9, 4)) hX rfl).2 (As := []) (rest := [.int 1]) hx hb hml hown hts hX hC (m_X8_kind_3 i0 hi) (lw5 q564 q1876 q375 q551 q119) q552 ⟨by decide, by show _ = some 0; decide +kernel⟩ ⟨rfl, rfl⟩ ⟨Nat.le_of_ble_eq_true rfl, Nat.le_of_ble_eq_true rfl⟩ (fx_recv (g := 23) (i := i0) (ci := 9) (q := (RX9, TX9, 4)) hX hC (cin (decide_eq_true hi)) rfl rfl) hl.1 rfl (Nat.le_of_ble_eq_true rfl) ⟨Nat.zero_le _, Nat.zero_le _⟩ dX9_kind_2 (fun _ H locs hC => ?_)
  refine W.eq (g2 := F0 m 5 ls [.int 2, .int 1]) rfl ?_
  refine lv_iadd hx hb dX9_kind_5 ?_
  exact fr_i hx hb hr hlocks hX hC () (congrArg (fun z => some (Value.int z)) (by decide)) rfl dX9_kind_6
set_option maxRecDepth 100000 in
theorem m_X9_takes_3 {l : Launch} {G : Gc} {d kp as un to sc fd tp sh : Row} {sp : Nat → Option Nat} (i0 : Nat) (hi : i0 < 8) : Cm l yX9_takes (ws_ yX9_takes cX9_takes 1 (some .int)) ({ frames := 4, cells := 0, slots := 0, locals := 75 }) (cF G) [.ref (G.ad 23 i0)] (cct G (pg d kp as un to sc fd tp sh) sp) (fun _ : Unit => some (.int (p_apart (d (93 + 4 * i0)) (d 8) + 4))) (fun _ => cct G (pg d kp as un to sc fd tp sh) sp) := by
  refine Cm.start (by decide) (Nat.le_of_ble_eq_true rfl) ?_
  intro p e s m below meth c hf hX hC ls hl
  obtain ⟨hx, hb, hr, hml, hown, hts, hlocks⟩ := hf
  have hl : lv_has ls 1 [(0, .ref (G.ad 23 i0))] := hl
  have hown : s.vm.findClass "OwlEars$Late" = some m.cls := hown
  refine lv_aload_n hx hb dX9_takes_0 rfl (lv_at hl 0 rfl) ?_
  refine fc_SU (C := RX9) (fx_at' (ci := 9) (q := (RX9, TX9, 4)) hX rfl).2 (As := []) (rest := []) hx hb hml hown hts hX hC (m_X8_takes_3 i0 hi) (lw5 q626 q1880 q375 q586 q119) q588 ⟨by decide, by show _ = some 0; decide +kernel⟩ ⟨rfl, rfl⟩ ⟨Nat.le_of_ble_eq_true rfl, Nat.le_of_ble_eq_true rfl⟩ (fx_recv (g := 23) (i := i0) (ci := 9) (q := (RX9, TX9, 4)) hX hC (cin (decide_eq_true hi)) rfl rfl) hl.1 rfl (Nat.le_of_ble_eq_true rfl) ⟨Nat.zero_le _, Nat.zero_le _⟩ dX9_takes_1 (fun _ H locs hC => ?_)
  refine W.eq (g2 := F0 m 4 ls [.int (p_apart (d (93 + 4 * i0)) (d 8) + 2)]) rfl ?_
  refine lv_iconst (v := 2) hx hb dX9_takes_4 rfl ?_
  refine lv_iadd hx hb dX9_takes_5 ?_
  exact fr_i hx hb hr hlocks hX hC () (congrArg (fun z => some (Value.int z)) ((Int32.add_assoc _ 2 2).symm)) rfl dX9_takes_6
set_option maxRecDepth 100000 in
theorem m_X6_kind_4 {l : Launch} {G : Gc} {d kp as un to sc fd tp sh : Row} {sp : Nat → Option Nat} (i0 : Nat) (hi : i0 < 8) : Cm l yX6_kind (ws_ yX6_kind cX6_kind 1 (some .int)) ({ frames := 0, cells := 0, slots := 0, locals := 0 }) (cF G) [.ref (G.ad 24 i0)] (cct G (pg d kp as un to sc fd tp sh) sp) (fun _ : Unit => some (.int 0)) (fun _ => cct G (pg d kp as un to sc fd tp sh) sp) := by
  refine Cm.start (by decide) (Nat.le_of_ble_eq_true rfl) ?_
  intro p e s m below meth c hf hX hC ls hl
  obtain ⟨hx, hb, hr, hml, hown, hts, hlocks⟩ := hf
  have hl : lv_has ls 1 [(0, .ref (G.ad 24 i0))] := hl
  have hown : s.vm.findClass "OwlEars$Strike" = some m.cls := hown
  refine lv_iconst (v := 0) hx hb dX6_kind_0 rfl ?_
  exact fr_i hx hb hr hlocks hX hC () rfl rfl dX6_kind_1
set_option maxRecDepth 100000 in
theorem m_X6_takes_4 {l : Launch} {G : Gc} {d kp as un to sc fd tp sh : Row} {sp : Nat → Option Nat} (i0 : Nat) (hi : i0 < 8) : Cm l yX6_takes (ws_ yX6_takes cX6_takes 1 (some .int)) ({ frames := 2, cells := 0, slots := 0, locals := 35 }) (cF G) [.ref (G.ad 24 i0)] (cct G (pg d kp as un to sc fd tp sh) sp) (fun _ : Unit => some (.int (p_apart (d (93 + 4 * i0)) (d 8) + 1))) (fun _ => cct G (pg d kp as un to sc fd tp sh) sp) := by
  refine Cm.start (by decide) (Nat.le_of_ble_eq_true rfl) ?_
  intro p e s m below meth c hf hX hC ls hl
  obtain ⟨hx, hb, hr, hml, hown, hts, hlocks⟩ := hf
  have hl : lv_has ls 1 [(0, .ref (G.ad 24 i0))] := hl
  have hown : s.vm.findClass "OwlEars$Strike" = some m.cls := hown
  refine lv_aload_n hx hb dX6_takes_0 rfl (lv_at hl 0 rfl) ?_
  refine lv_iconst (v := 1) hx hb dX6_takes_1 rfl ?_
  refine fc_U (C := RX10) (owner := "OwlEars$Strike") (x := ⟨"OwlEars$Strike", "told", "(I)I"⟩) (As := [.int 1]) (rest := []) hx hb hml hown hts hX hC (m_X6_told_4_1 i0 hi) (lw5 q592 q595 q601 q593 q117) q602 rfl (by refine ⟨by decide, by decide, ?_⟩; show _ = some 1; decide +kernel) ⟨rfl, rfl⟩ ⟨Nat.le_of_ble_eq_true rfl, Nat.le_of_ble_eq_true rfl⟩ (fx_recv (g := 24) (i := i0) (ci := 10) (q := (RX10, TX10, 5)) hX hC (cin (decide_eq_true hi)) rfl rfl) hl.1 rfl (Nat.le_of_ble_eq_true rfl) ⟨Nat.zero_le _, Nat.zero_le _⟩ dX6_takes_2 (fun _ H locs hC => ?_)
  refine W.eq (g2 := F0 m 5 ls [.int (d (93 + 4 * i0))]) rfl ?_
  refine lv_aload_n hx hb dX6_takes_5 rfl (lv_at hl 0 rfl) ?_
  refine fg_get (C := RX10) (T := TX10) (N := 5) (ci := 10) (g := 24) (i := i0) (v := .ref (G.ad 5 0)) hx hb hown hts hX hC in_X10 rfl (cin (decide_eq_true hi)) rfl 1 (by decide) q343 (fun _ h => h) rfl dX6_takes_6 ?_
  refine fg_getN (C := RX0) (T := TX0) (N := 13) (ci := 1) (g := 5) (i := 0) (v := .ref (G.ad 0 0)) hx hb hown hts hX hC in_X0 rfl (cin rfl) rfl 3 (by decide) (hX.2.2.1.F q424) (fun _ h => h) rfl dX6_takes_9 ?_
  refine fg_getN (C := RX4) (T := TX4) (N := 9) (ci := 0) (g := 0) (i := 0) (v := .ref (G.ad 0 4)) hx hb hown hts hX hC in_X4 rfl (cin rfl) rfl 3 (by decide) (hX.2.2.1.F q248) (fun _ h => h) rfl dX6_takes_12 ?_
  refine lv_iconst (v := 0) hx hb dX6_takes_15 rfl ?_
  refine fg_iald (g := 0) (i := 4) (t0 := 0) (v := d 8) hx hb hX hC (cin rfl) rfl rfl (vin_b rfl) rfl dX6_takes_16 ?_
  refine fc_SN (As := [.int (d (93 + 4 * i0)), .int (d 8)]) (rest := []) hx hb hml hown hts hX hC (m_X0_apart (d (93 + 4 * i0)) (d 8)) (hX.2.2.1.M q603) q497 q108 q498 hdS_X0_apart ⟨rfl, rfl⟩ ⟨Nat.le_of_ble_eq_true rfl, Nat.le_of_ble_eq_true rfl⟩ hl.1 rfl (Nat.le_of_ble_eq_true rfl) ⟨Nat.zero_le _, Nat.zero_le _⟩ dX6_takes_17 (fun _ H locs hC => ?_)
  refine W.eq (g2 := F0 m 20 ls [.int (p_apart (d (93 + 4 * i0)) (d 8))]) rfl ?_
  refine lv_iconst (v := 1) hx hb dX6_takes_20 rfl ?_
  refine lv_iadd hx hb dX6_takes_21 ?_
  exact fr_i hx hb hr hlocks hX hC () (congrArg (fun z => some (Value.int z)) (rfl)) rfl dX6_takes_22
set_option maxRecDepth 100000 in
theorem m_X6_deep_4 {l : Launch} {G : Gc} {d kp as un to sc fd tp sh : Row} {sp : Nat → Option Nat} (i0 : Nat) (hi : i0 < 8) : Cm l yX6_deep (ws_ yX6_deep cX6_deep 1 (some .int)) ({ frames := 0, cells := 0, slots := 0, locals := 0 }) (cF G) [.ref (G.ad 24 i0)] (cct G (pg d kp as un to sc fd tp sh) sp) (fun _ : Unit => some (.int 8)) (fun _ => cct G (pg d kp as un to sc fd tp sh) sp) := by
  refine Cm.start (by decide) (Nat.le_of_ble_eq_true rfl) ?_
  intro p e s m below meth c hf hX hC ls hl
  obtain ⟨hx, hb, hr, hml, hown, hts, hlocks⟩ := hf
  have hl : lv_has ls 1 [(0, .ref (G.ad 24 i0))] := hl
  have hown : s.vm.findClass "OwlEars$Strike" = some m.cls := hown
  refine lv_bipush (v := 8) hx hb dX6_deep_0 rfl ?_
  exact fr_i hx hb hr hlocks hX hC () rfl rfl dX6_deep_2
set_option maxRecDepth 100000 in
theorem m_X6_wide_4 {l : Launch} {G : Gc} {d kp as un to sc fd tp sh : Row} {sp : Nat → Option Nat} (i0 : Nat) (hi : i0 < 8) : Cm l yX6_wide (ws_ yX6_wide cX6_wide 1 (some .int)) ({ frames := 0, cells := 0, slots := 0, locals := 0 }) (cF G) [.ref (G.ad 24 i0)] (cct G (pg d kp as un to sc fd tp sh) sp) (fun _ : Unit => some (.int 0)) (fun _ => cct G (pg d kp as un to sc fd tp sh) sp) := by
  refine Cm.start (by decide) (Nat.le_of_ble_eq_true rfl) ?_
  intro p e s m below meth c hf hX hC ls hl
  obtain ⟨hx, hb, hr, hml, hown, hts, hlocks⟩ := hf
  have hl : lv_has ls 1 [(0, .ref (G.ad 24 i0))] := hl
  have hown : s.vm.findClass "OwlEars$Strike" = some m.cls := hown
  refine lv_iconst (v := 0) hx hb dX6_wide_0 rfl ?_
  exact fr_i hx hb hr hlocks hX hC () rfl rfl dX6_wide_1
set_option maxRecDepth 100000 in
theorem m_X8_kind_4 {l : Launch} {G : Gc} {d kp as un to sc fd tp sh : Row} {sp : Nat → Option Nat} (i0 : Nat) (hi : i0 < 8) : Cm l yX8_kind (ws_ yX8_kind cX8_kind 1 (some .int)) ({ frames := 1, cells := 0, slots := 0, locals := 20 }) (cF G) [.ref (G.ad 24 i0)] (cct G (pg d kp as un to sc fd tp sh) sp) (fun _ : Unit => some (.int 2)) (fun _ => cct G (pg d kp as un to sc fd tp sh) sp) := by
  refine Cm.start (by decide) (Nat.le_of_ble_eq_true rfl) ?_
  intro p e s m below meth c hf hX hC ls hl
  obtain ⟨hx, hb, hr, hml, hown, hts, hlocks⟩ := hf
  have hl : lv_has ls 1 [(0, .ref (G.ad 24 i0))] := hl
  have hown : s.vm.findClass "OwlEars$Aslant" = some m.cls := hown
  refine lv_iconst (v := 2) hx hb dX8_kind_0 rfl ?_
  refine lv_aload_n hx hb dX8_kind_1 rfl (lv_at hl 0 rfl) ?_
  refine fc_SU (C := RX10) (fx_at' (ci := 10) (q := (RX10, TX10, 5)) hX rfl).2 (As := []) (rest := [.int 2]) hx hb hml hown hts hX hC (m_X6_kind_4 i0 hi) (lw5 q553 q549 q362 q547 q117) q574 ⟨by decide, by show _ = some 0; decide +kernel⟩ ⟨rfl, rfl⟩ ⟨Nat.le_of_ble_eq_true rfl, Nat.le_of_ble_eq_true rfl⟩ (fx_recv (g := 24) (i := i0) (ci := 10) (q := (RX10, TX10, 5)) hX hC (cin (decide_eq_true hi)) rfl rfl) hl.1 rfl (Nat.le_of_ble_eq_true rfl) ⟨Nat.zero_le _, Nat.zero_le _⟩ dX8_kind_2 (fun _ H locs hC => ?_)
  refine W.eq (g2 := F0 m 5 ls [.int 0, .int 2]) rfl ?_
  refine lv_iadd hx hb dX8_kind_5 ?_
  exact fr_i hx hb hr hlocks hX hC () (congrArg (fun z => some (Value.int z)) (by decide)) rfl dX8_kind_6
set_option maxRecDepth 100000 in
theorem m_X8_takes_4 {l : Launch} {G : Gc} {d kp as un to sc fd tp sh : Row} {sp : Nat → Option Nat} (i0 : Nat) (hi : i0 < 8) : Cm l yX8_takes (ws_ yX8_takes cX8_takes 1 (some .int)) ({ frames := 3, cells := 0, slots := 0, locals := 55 }) (cF G) [.ref (G.ad 24 i0)] (cct G (pg d kp as un to sc fd tp sh) sp) (fun _ : Unit => some (.int (p_apart (d (93 + 4 * i0)) (d 8) + 2))) (fun _ => cct G (pg d kp as un to sc fd tp sh) sp) := by
  refine Cm.start (by decide) (Nat.le_of_ble_eq_true rfl) ?_
  intro p e s m below meth c hf hX hC ls hl
  obtain ⟨hx, hb, hr, hml, hown, hts, hlocks⟩ := hf
  have hl : lv_has ls 1 [(0, .ref (G.ad 24 i0))] := hl
  have hown : s.vm.findClass "OwlEars$Aslant" = some m.cls := hown
  refine lv_aload_n hx hb dX8_takes_0 rfl (lv_at hl 0 rfl) ?_
  refine fc_SU (C := RX10) (fx_at' (ci := 10) (q := (RX10, TX10, 5)) hX rfl).2 (As := []) (rest := []) hx hb hml hown hts hX hC (m_X6_takes_4 i0 hi) (lw5 q589 q1878 q362 q590 q117) q591 ⟨by decide, by show _ = some 0; decide +kernel⟩ ⟨rfl, rfl⟩ ⟨Nat.le_of_ble_eq_true rfl, Nat.le_of_ble_eq_true rfl⟩ (fx_recv (g := 24) (i := i0) (ci := 10) (q := (RX10, TX10, 5)) hX hC (cin (decide_eq_true hi)) rfl rfl) hl.1 rfl (Nat.le_of_ble_eq_true rfl) ⟨Nat.zero_le _, Nat.zero_le _⟩ dX8_takes_1 (fun _ H locs hC => ?_)
  refine W.eq (g2 := F0 m 4 ls [.int (p_apart (d (93 + 4 * i0)) (d 8) + 1)]) rfl ?_
  refine lv_iconst (v := 1) hx hb dX8_takes_4 rfl ?_
  refine lv_iadd hx hb dX8_takes_5 ?_
  exact fr_i hx hb hr hlocks hX hC () (congrArg (fun z => some (Value.int z)) ((Int32.add_assoc _ 1 1).symm)) rfl dX8_takes_6
set_option maxRecDepth 100000 in
theorem m_X8_deep_4 {l : Launch} {G : Gc} {d kp as un to sc fd tp sh : Row} {sp : Nat → Option Nat} (i0 : Nat) (hi : i0 < 8) : Cm l yX8_deep (ws_ yX8_deep cX8_deep 1 (some .int)) ({ frames := 1, cells := 0, slots := 0, locals := 20 }) (cF G) [.ref (G.ad 24 i0)] (cct G (pg d kp as un to sc fd tp sh) sp) (fun _ : Unit => some (.int 6)) (fun _ => cct G (pg d kp as un to sc fd tp sh) sp) := by
  refine Cm.start (by decide) (Nat.le_of_ble_eq_true rfl) ?_
  intro p e s m below meth c hf hX hC ls hl
  obtain ⟨hx, hb, hr, hml, hown, hts, hlocks⟩ := hf
  have hl : lv_has ls 1 [(0, .ref (G.ad 24 i0))] := hl
  have hown : s.vm.findClass "OwlEars$Aslant" = some m.cls := hown
  refine lv_aload_n hx hb dX8_deep_0 rfl (lv_at hl 0 rfl) ?_
  refine fc_SU (C := RX10) (fx_at' (ci := 10) (q := (RX10, TX10, 5)) hX rfl).2 (As := []) (rest := []) hx hb hml hown hts hX hC (m_X6_deep_4 i0 hi) (lw5 q659 q655 q362 q653 q117) q678 ⟨by decide, by show _ = some 0; decide +kernel⟩ ⟨rfl, rfl⟩ ⟨Nat.le_of_ble_eq_true rfl, Nat.le_of_ble_eq_true rfl⟩ (fx_recv (g := 24) (i := i0) (ci := 10) (q := (RX10, TX10, 5)) hX hC (cin (decide_eq_true hi)) rfl rfl) hl.1 rfl (Nat.le_of_ble_eq_true rfl) ⟨Nat.zero_le _, Nat.zero_le _⟩ dX8_deep_1 (fun _ H locs hC => ?_)
  refine W.eq (g2 := F0 m 4 ls [.int 8]) rfl ?_
  refine lv_iconst (v := 2) hx hb dX8_deep_4 rfl ?_
  refine lv_isub hx hb dX8_deep_5 ?_
  exact fr_i hx hb hr hlocks hX hC () (congrArg (fun z => some (Value.int z)) (by decide)) rfl dX8_deep_6
set_option maxRecDepth 100000 in
theorem m_X8_wide_4 {l : Launch} {G : Gc} {d kp as un to sc fd tp sh : Row} {sp : Nat → Option Nat} (i0 : Nat) (hi : i0 < 8) : Cm l yX8_wide (ws_ yX8_wide cX8_wide 1 (some .int)) ({ frames := 1, cells := 0, slots := 0, locals := 20 }) (cF G) [.ref (G.ad 24 i0)] (cct G (pg d kp as un to sc fd tp sh) sp) (fun _ : Unit => some (.int 1)) (fun _ => cct G (pg d kp as un to sc fd tp sh) sp) := by
  refine Cm.start (by decide) (Nat.le_of_ble_eq_true rfl) ?_
  intro p e s m below meth c hf hX hC ls hl
  obtain ⟨hx, hb, hr, hml, hown, hts, hlocks⟩ := hf
  have hl : lv_has ls 1 [(0, .ref (G.ad 24 i0))] := hl
  have hown : s.vm.findClass "OwlEars$Aslant" = some m.cls := hown
  refine lv_iconst (v := 1) hx hb dX8_wide_0 rfl ?_
  refine lv_aload_n hx hb dX8_wide_1 rfl (lv_at hl 0 rfl) ?_
  refine fc_SU (C := RX10) (fx_at' (ci := 10) (q := (RX10, TX10, 5)) hX rfl).2 (As := []) (rest := [.int 1]) hx hb hml hown hts hX hC (m_X6_wide_4 i0 hi) (lw5 q686 q682 q362 q680 q117) q695 ⟨by decide, by show _ = some 0; decide +kernel⟩ ⟨rfl, rfl⟩ ⟨Nat.le_of_ble_eq_true rfl, Nat.le_of_ble_eq_true rfl⟩ (fx_recv (g := 24) (i := i0) (ci := 10) (q := (RX10, TX10, 5)) hX hC (cin (decide_eq_true hi)) rfl rfl) hl.1 rfl (Nat.le_of_ble_eq_true rfl) ⟨Nat.zero_le _, Nat.zero_le _⟩ dX8_wide_2 (fun _ H locs hC => ?_)
  refine W.eq (g2 := F0 m 5 ls [.int 0, .int 1]) rfl ?_
  refine lv_iadd hx hb dX8_wide_5 ?_
  exact fr_i hx hb hr hlocks hX hC () (congrArg (fun z => some (Value.int z)) (by decide)) rfl dX8_wide_6
set_option maxRecDepth 100000 in
theorem m_X9_kind_4 {l : Launch} {G : Gc} {d kp as un to sc fd tp sh : Row} {sp : Nat → Option Nat} (i0 : Nat) (hi : i0 < 8) : Cm l yX9_kind (ws_ yX9_kind cX9_kind 1 (some .int)) ({ frames := 2, cells := 0, slots := 0, locals := 40 }) (cF G) [.ref (G.ad 24 i0)] (cct G (pg d kp as un to sc fd tp sh) sp) (fun _ : Unit => some (.int 3)) (fun _ => cct G (pg d kp as un to sc fd tp sh) sp) := by
  refine Cm.start (by decide) (Nat.le_of_ble_eq_true rfl) ?_
  intro p e s m below meth c hf hX hC ls hl
  obtain ⟨hx, hb, hr, hml, hown, hts, hlocks⟩ := hf
  have hl : lv_has ls 1 [(0, .ref (G.ad 24 i0))] := hl
  have hown : s.vm.findClass "OwlEars$Late" = some m.cls := hown
  refine lv_iconst (v := 1) hx hb dX9_kind_0 rfl ?_
  refine lv_aload_n hx hb dX9_kind_1 rfl (lv_at hl 0 rfl) ?_
  refine fc_SU (C := RX10) (fx_at' (ci := 10) (q := (RX10, TX10, 5)) hX rfl).2 (As := []) (rest := [.int 1]) hx hb hml hown hts hX hC (m_X8_kind_4 i0 hi) (lw5 q564 q1876 q375 q551 q119) q552 ⟨by decide, by show _ = some 0; decide +kernel⟩ ⟨rfl, rfl⟩ ⟨Nat.le_of_ble_eq_true rfl, Nat.le_of_ble_eq_true rfl⟩ (fx_recv (g := 24) (i := i0) (ci := 10) (q := (RX10, TX10, 5)) hX hC (cin (decide_eq_true hi)) rfl rfl) hl.1 rfl (Nat.le_of_ble_eq_true rfl) ⟨Nat.zero_le _, Nat.zero_le _⟩ dX9_kind_2 (fun _ H locs hC => ?_)
  refine W.eq (g2 := F0 m 5 ls [.int 2, .int 1]) rfl ?_
  refine lv_iadd hx hb dX9_kind_5 ?_
  exact fr_i hx hb hr hlocks hX hC () (congrArg (fun z => some (Value.int z)) (by decide)) rfl dX9_kind_6
set_option maxRecDepth 100000 in
theorem m_X9_takes_4 {l : Launch} {G : Gc} {d kp as un to sc fd tp sh : Row} {sp : Nat → Option Nat} (i0 : Nat) (hi : i0 < 8) : Cm l yX9_takes (ws_ yX9_takes cX9_takes 1 (some .int)) ({ frames := 4, cells := 0, slots := 0, locals := 75 }) (cF G) [.ref (G.ad 24 i0)] (cct G (pg d kp as un to sc fd tp sh) sp) (fun _ : Unit => some (.int (p_apart (d (93 + 4 * i0)) (d 8) + 4))) (fun _ => cct G (pg d kp as un to sc fd tp sh) sp) := by
  refine Cm.start (by decide) (Nat.le_of_ble_eq_true rfl) ?_
  intro p e s m below meth c hf hX hC ls hl
  obtain ⟨hx, hb, hr, hml, hown, hts, hlocks⟩ := hf
  have hl : lv_has ls 1 [(0, .ref (G.ad 24 i0))] := hl
  have hown : s.vm.findClass "OwlEars$Late" = some m.cls := hown
  refine lv_aload_n hx hb dX9_takes_0 rfl (lv_at hl 0 rfl) ?_
  refine fc_SU (C := RX10) (fx_at' (ci := 10) (q := (RX10, TX10, 5)) hX rfl).2 (As := []) (rest := []) hx hb hml hown hts hX hC (m_X8_takes_4 i0 hi) (lw5 q626 q1880 q375 q586 q119) q588 ⟨by decide, by show _ = some 0; decide +kernel⟩ ⟨rfl, rfl⟩ ⟨Nat.le_of_ble_eq_true rfl, Nat.le_of_ble_eq_true rfl⟩ (fx_recv (g := 24) (i := i0) (ci := 10) (q := (RX10, TX10, 5)) hX hC (cin (decide_eq_true hi)) rfl rfl) hl.1 rfl (Nat.le_of_ble_eq_true rfl) ⟨Nat.zero_le _, Nat.zero_le _⟩ dX9_takes_1 (fun _ H locs hC => ?_)
  refine W.eq (g2 := F0 m 4 ls [.int (p_apart (d (93 + 4 * i0)) (d 8) + 2)]) rfl ?_
  refine lv_iconst (v := 2) hx hb dX9_takes_4 rfl ?_
  refine lv_iadd hx hb dX9_takes_5 ?_
  exact fr_i hx hb hr hlocks hX hC () (congrArg (fun z => some (Value.int z)) ((Int32.add_assoc _ 2 2).symm)) rfl dX9_takes_6
set_option maxRecDepth 100000 in
theorem m_X10_kind_4 {l : Launch} {G : Gc} {d kp as un to sc fd tp sh : Row} {sp : Nat → Option Nat} (i0 : Nat) (hi : i0 < 8) : Cm l yX10_kind (ws_ yX10_kind cX10_kind 1 (some .int)) ({ frames := 3, cells := 0, slots := 0, locals := 60 }) (cF G) [.ref (G.ad 24 i0)] (cct G (pg d kp as un to sc fd tp sh) sp) (fun _ : Unit => some (.int 4)) (fun _ => cct G (pg d kp as un to sc fd tp sh) sp) := by
  refine Cm.start (by decide) (Nat.le_of_ble_eq_true rfl) ?_
  intro p e s m below meth c hf hX hC ls hl
  obtain ⟨hx, hb, hr, hml, hown, hts, hlocks⟩ := hf
  have hl : lv_has ls 1 [(0, .ref (G.ad 24 i0))] := hl
  have hown : s.vm.findClass "OwlEars$Waited" = some m.cls := hown
  refine lv_iconst (v := 1) hx hb dX10_kind_0 rfl ?_
  refine lv_aload_n hx hb dX10_kind_1 rfl (lv_at hl 0 rfl) ?_
  refine fc_SU (C := RX10) (fx_at' (ci := 10) (q := (RX10, TX10, 5)) hX rfl).2 (As := []) (rest := [.int 1]) hx hb hml hown hts hX hC (m_X9_kind_4 i0 hi) (lw5 q573 q1877 q389 q562 q120) q563 ⟨by decide, by show _ = some 0; decide +kernel⟩ ⟨rfl, rfl⟩ ⟨Nat.le_of_ble_eq_true rfl, Nat.le_of_ble_eq_true rfl⟩ (fx_recv (g := 24) (i := i0) (ci := 10) (q := (RX10, TX10, 5)) hX hC (cin (decide_eq_true hi)) rfl rfl) hl.1 rfl (Nat.le_of_ble_eq_true rfl) ⟨Nat.zero_le _, Nat.zero_le _⟩ dX10_kind_2 (fun _ H locs hC => ?_)
  refine W.eq (g2 := F0 m 5 ls [.int 3, .int 1]) rfl ?_
  refine lv_iadd hx hb dX10_kind_5 ?_
  exact fr_i hx hb hr hlocks hX hC () (congrArg (fun z => some (Value.int z)) (by decide)) rfl dX10_kind_6
set_option maxRecDepth 100000 in
theorem m_X10_takes_4 {l : Launch} {G : Gc} {d kp as un to sc fd tp sh : Row} {sp : Nat → Option Nat} (i0 : Nat) (hi : i0 < 8) : Cm l yX10_takes (ws_ yX10_takes cX10_takes 1 (some .int)) ({ frames := 5, cells := 0, slots := 0, locals := 95 }) (cF G) [.ref (G.ad 24 i0)] (cct G (pg d kp as un to sc fd tp sh) sp) (fun _ : Unit => some (.int (p_apart (d (93 + 4 * i0)) (d 8) + 4 + d (94 + 4 * i0)))) (fun _ => cct G (pg d kp as un to sc fd tp sh) sp) := by
  refine Cm.start (by decide) (Nat.le_of_ble_eq_true rfl) ?_
  intro p e s m below meth c hf hX hC ls hl
  obtain ⟨hx, hb, hr, hml, hown, hts, hlocks⟩ := hf
  have hl : lv_has ls 1 [(0, .ref (G.ad 24 i0))] := hl
  have hown : s.vm.findClass "OwlEars$Waited" = some m.cls := hown
  refine lv_aload_n hx hb dX10_takes_0 rfl (lv_at hl 0 rfl) ?_
  refine fc_SU (C := RX10) (fx_at' (ci := 10) (q := (RX10, TX10, 5)) hX rfl).2 (As := []) (rest := []) hx hb hml hown hts hX hC (m_X9_takes_4 i0 hi) (lw5 q647 q1881 q389 q623 q120) q625 ⟨by decide, by show _ = some 0; decide +kernel⟩ ⟨rfl, rfl⟩ ⟨Nat.le_of_ble_eq_true rfl, Nat.le_of_ble_eq_true rfl⟩ (fx_recv (g := 24) (i := i0) (ci := 10) (q := (RX10, TX10, 5)) hX hC (cin (decide_eq_true hi)) rfl rfl) hl.1 rfl (Nat.le_of_ble_eq_true rfl) ⟨Nat.zero_le _, Nat.zero_le _⟩ dX10_takes_1 (fun _ H locs hC => ?_)
  refine W.eq (g2 := F0 m 4 ls [.int (p_apart (d (93 + 4 * i0)) (d 8) + 4)]) rfl ?_
  refine lv_aload_n hx hb dX10_takes_4 rfl (lv_at hl 0 rfl) ?_
  refine lv_iconst (v := 2) hx hb dX10_takes_5 rfl ?_
  refine fc_U (C := RX10) (owner := "OwlEars$Strike") (x := ⟨"OwlEars$Waited", "told", "(I)I"⟩) (As := [.int 2]) (rest := [.int (p_apart (d (93 + 4 * i0)) (d 8) + 4)]) hx hb hml hown hts hX hC (m_X6_told_4_2 i0 hi) (lw5 q648 q649 q651 q593 q117) q602 rfl (by refine ⟨by decide, by decide, ?_⟩; show _ = some 1; decide +kernel) ⟨rfl, rfl⟩ ⟨Nat.le_of_ble_eq_true rfl, Nat.le_of_ble_eq_true rfl⟩ (fx_recv (g := 24) (i := i0) (ci := 10) (q := (RX10, TX10, 5)) hX hC (cin (decide_eq_true hi)) rfl rfl) hl.1 rfl (Nat.le_of_ble_eq_true rfl) ⟨Nat.zero_le _, Nat.zero_le _⟩ dX10_takes_6 (fun _ H locs hC => ?_)
  refine W.eq (g2 := F0 m 9 ls [.int (d (94 + 4 * i0)), .int (p_apart (d (93 + 4 * i0)) (d 8) + 4)]) rfl ?_
  refine lv_iadd hx hb dX10_takes_9 ?_
  exact fr_i hx hb hr hlocks hX hC () (congrArg (fun z => some (Value.int z)) (rfl)) rfl dX10_takes_10
set_option maxRecDepth 100000 in
theorem m_X10_deep_4 {l : Launch} {G : Gc} {d kp as un to sc fd tp sh : Row} {sp : Nat → Option Nat} (i0 : Nat) (hi : i0 < 8) : Cm l yX10_deep (ws_ yX10_deep cX10_deep 1 (some .int)) ({ frames := 2, cells := 0, slots := 0, locals := 40 }) (cF G) [.ref (G.ad 24 i0)] (cct G (pg d kp as un to sc fd tp sh) sp) (fun _ : Unit => some (.int (6 + d (94 + 4 * i0)))) (fun _ => cct G (pg d kp as un to sc fd tp sh) sp) := by
  refine Cm.start (by decide) (Nat.le_of_ble_eq_true rfl) ?_
  intro p e s m below meth c hf hX hC ls hl
  obtain ⟨hx, hb, hr, hml, hown, hts, hlocks⟩ := hf
  have hl : lv_has ls 1 [(0, .ref (G.ad 24 i0))] := hl
  have hown : s.vm.findClass "OwlEars$Waited" = some m.cls := hown
  refine lv_aload_n hx hb dX10_deep_0 rfl (lv_at hl 0 rfl) ?_
  refine fc_SU2 (C := RX10) (x := ⟨"OwlEars$Late", "deep", "()I"⟩) (fx_at' (ci := 10) (q := (RX10, TX10, 5)) hX rfl).2 (As := []) (rest := []) hx hb hml hown hts hX hC (m_X8_deep_4 i0 hi) (lw6 q675 q676 q389 q375 q657 q119) q658 rfl ⟨by decide, by show _ = some 0; decide +kernel⟩ ⟨rfl, rfl⟩ ⟨Nat.le_of_ble_eq_true rfl, Nat.le_of_ble_eq_true rfl⟩ (fx_recv (g := 24) (i := i0) (ci := 10) (q := (RX10, TX10, 5)) hX hC (cin (decide_eq_true hi)) rfl rfl) hl.1 rfl (Nat.le_of_ble_eq_true rfl) ⟨Nat.zero_le _, Nat.zero_le _⟩ dX10_deep_1 (fun _ H locs hC => ?_)
  refine W.eq (g2 := F0 m 4 ls [.int 6]) rfl ?_
  refine lv_aload_n hx hb dX10_deep_4 rfl (lv_at hl 0 rfl) ?_
  refine lv_iconst (v := 2) hx hb dX10_deep_5 rfl ?_
  refine fc_U (C := RX10) (owner := "OwlEars$Strike") (x := ⟨"OwlEars$Waited", "told", "(I)I"⟩) (As := [.int 2]) (rest := [.int 6]) hx hb hml hown hts hX hC (m_X6_told_4_2 i0 hi) (lw5 q648 q649 q651 q593 q117) q602 rfl (by refine ⟨by decide, by decide, ?_⟩; show _ = some 1; decide +kernel) ⟨rfl, rfl⟩ ⟨Nat.le_of_ble_eq_true rfl, Nat.le_of_ble_eq_true rfl⟩ (fx_recv (g := 24) (i := i0) (ci := 10) (q := (RX10, TX10, 5)) hX hC (cin (decide_eq_true hi)) rfl rfl) hl.1 rfl (Nat.le_of_ble_eq_true rfl) ⟨Nat.zero_le _, Nat.zero_le _⟩ dX10_deep_6 (fun _ H locs hC => ?_)
  refine W.eq (g2 := F0 m 9 ls [.int (d (94 + 4 * i0)), .int 6]) rfl ?_
  refine lv_iadd hx hb dX10_deep_9 ?_
  exact fr_i hx hb hr hlocks hX hC () (congrArg (fun z => some (Value.int z)) (rfl)) rfl dX10_deep_10
set_option maxRecDepth 100000 in
theorem m_X6_kind_5 {l : Launch} {G : Gc} {d kp as un to sc fd tp sh : Row} {sp : Nat → Option Nat} (i0 : Nat) (hi : i0 < 8) : Cm l yX6_kind (ws_ yX6_kind cX6_kind 1 (some .int)) ({ frames := 0, cells := 0, slots := 0, locals := 0 }) (cF G) [.ref (G.ad 25 i0)] (cct G (pg d kp as un to sc fd tp sh) sp) (fun _ : Unit => some (.int 0)) (fun _ => cct G (pg d kp as un to sc fd tp sh) sp) := by
  refine Cm.start (by decide) (Nat.le_of_ble_eq_true rfl) ?_
  intro p e s m below meth c hf hX hC ls hl
  obtain ⟨hx, hb, hr, hml, hown, hts, hlocks⟩ := hf
  have hl : lv_has ls 1 [(0, .ref (G.ad 25 i0))] := hl
  have hown : s.vm.findClass "OwlEars$Strike" = some m.cls := hown
  refine lv_iconst (v := 0) hx hb dX6_kind_0 rfl ?_
  exact fr_i hx hb hr hlocks hX hC () rfl rfl dX6_kind_1
set_option maxRecDepth 100000 in
theorem m_X6_takes_5 {l : Launch} {G : Gc} {d kp as un to sc fd tp sh : Row} {sp : Nat → Option Nat} (i0 : Nat) (hi : i0 < 8) : Cm l yX6_takes (ws_ yX6_takes cX6_takes 1 (some .int)) ({ frames := 2, cells := 0, slots := 0, locals := 35 }) (cF G) [.ref (G.ad 25 i0)] (cct G (pg d kp as un to sc fd tp sh) sp) (fun _ : Unit => some (.int (p_apart (d (93 + 4 * i0)) (d 8) + 1))) (fun _ => cct G (pg d kp as un to sc fd tp sh) sp) := by
  refine Cm.start (by decide) (Nat.le_of_ble_eq_true rfl) ?_
  intro p e s m below meth c hf hX hC ls hl
  obtain ⟨hx, hb, hr, hml, hown, hts, hlocks⟩ := hf
  have hl : lv_has ls 1 [(0, .ref (G.ad 25 i0))] := hl
  have hown : s.vm.findClass "OwlEars$Strike" = some m.cls := hown
  refine lv_aload_n hx hb dX6_takes_0 rfl (lv_at hl 0 rfl) ?_
  refine lv_iconst (v := 1) hx hb dX6_takes_1 rfl ?_
  refine fc_U (C := RX11) (owner := "OwlEars$Strike") (x := ⟨"OwlEars$Strike", "told", "(I)I"⟩) (As := [.int 1]) (rest := []) hx hb hml hown hts hX hC (m_X6_told_5_1 i0 hi) (lw5 q592 q595 q599 q593 q117) q602 rfl (by refine ⟨by decide, by decide, ?_⟩; show _ = some 1; decide +kernel) ⟨rfl, rfl⟩ ⟨Nat.le_of_ble_eq_true rfl, Nat.le_of_ble_eq_true rfl⟩ (fx_recv (g := 25) (i := i0) (ci := 11) (q := (RX11, TX11, 3)) hX hC (cin (decide_eq_true hi)) rfl rfl) hl.1 rfl (Nat.le_of_ble_eq_true rfl) ⟨Nat.zero_le _, Nat.zero_le _⟩ dX6_takes_2 (fun _ H locs hC => ?_)
  refine W.eq (g2 := F0 m 5 ls [.int (d (93 + 4 * i0))]) rfl ?_
  refine lv_aload_n hx hb dX6_takes_5 rfl (lv_at hl 0 rfl) ?_
  refine fg_get (C := RX11) (T := TX11) (N := 3) (ci := 11) (g := 25) (i := i0) (v := .ref (G.ad 5 0)) hx hb hown hts hX hC in_X11 rfl (cin (decide_eq_true hi)) rfl 1 (by decide) q343 (fun _ h => h) rfl dX6_takes_6 ?_
  refine fg_getN (C := RX0) (T := TX0) (N := 13) (ci := 1) (g := 5) (i := 0) (v := .ref (G.ad 0 0)) hx hb hown hts hX hC in_X0 rfl (cin rfl) rfl 3 (by decide) (hX.2.2.1.F q424) (fun _ h => h) rfl dX6_takes_9 ?_
  refine fg_getN (C := RX4) (T := TX4) (N := 9) (ci := 0) (g := 0) (i := 0) (v := .ref (G.ad 0 4)) hx hb hown hts hX hC in_X4 rfl (cin rfl) rfl 3 (by decide) (hX.2.2.1.F q248) (fun _ h => h) rfl dX6_takes_12 ?_
  refine lv_iconst (v := 0) hx hb dX6_takes_15 rfl ?_
  refine fg_iald (g := 0) (i := 4) (t0 := 0) (v := d 8) hx hb hX hC (cin rfl) rfl rfl (vin_b rfl) rfl dX6_takes_16 ?_
  refine fc_SN (As := [.int (d (93 + 4 * i0)), .int (d 8)]) (rest := []) hx hb hml hown hts hX hC (m_X0_apart (d (93 + 4 * i0)) (d 8)) (hX.2.2.1.M q603) q497 q108 q498 hdS_X0_apart ⟨rfl, rfl⟩ ⟨Nat.le_of_ble_eq_true rfl, Nat.le_of_ble_eq_true rfl⟩ hl.1 rfl (Nat.le_of_ble_eq_true rfl) ⟨Nat.zero_le _, Nat.zero_le _⟩ dX6_takes_17 (fun _ H locs hC => ?_)
  refine W.eq (g2 := F0 m 20 ls [.int (p_apart (d (93 + 4 * i0)) (d 8))]) rfl ?_
  refine lv_iconst (v := 1) hx hb dX6_takes_20 rfl ?_
  refine lv_iadd hx hb dX6_takes_21 ?_
  exact fr_i hx hb hr hlocks hX hC () (congrArg (fun z => some (Value.int z)) (rfl)) rfl dX6_takes_22
set_option maxRecDepth 100000 in
theorem m_X6_deep_5 {l : Launch} {G : Gc} {d kp as un to sc fd tp sh : Row} {sp : Nat → Option Nat} (i0 : Nat) (hi : i0 < 8) : Cm l yX6_deep (ws_ yX6_deep cX6_deep 1 (some .int)) ({ frames := 0, cells := 0, slots := 0, locals := 0 }) (cF G) [.ref (G.ad 25 i0)] (cct G (pg d kp as un to sc fd tp sh) sp) (fun _ : Unit => some (.int 8)) (fun _ => cct G (pg d kp as un to sc fd tp sh) sp) := by
  refine Cm.start (by decide) (Nat.le_of_ble_eq_true rfl) ?_
  intro p e s m below meth c hf hX hC ls hl
  obtain ⟨hx, hb, hr, hml, hown, hts, hlocks⟩ := hf
  have hl : lv_has ls 1 [(0, .ref (G.ad 25 i0))] := hl
  have hown : s.vm.findClass "OwlEars$Strike" = some m.cls := hown
  refine lv_bipush (v := 8) hx hb dX6_deep_0 rfl ?_
  exact fr_i hx hb hr hlocks hX hC () rfl rfl dX6_deep_2
set_option maxRecDepth 100000 in
theorem m_X6_wide_5 {l : Launch} {G : Gc} {d kp as un to sc fd tp sh : Row} {sp : Nat → Option Nat} (i0 : Nat) (hi : i0 < 8) : Cm l yX6_wide (ws_ yX6_wide cX6_wide 1 (some .int)) ({ frames := 0, cells := 0, slots := 0, locals := 0 }) (cF G) [.ref (G.ad 25 i0)] (cct G (pg d kp as un to sc fd tp sh) sp) (fun _ : Unit => some (.int 0)) (fun _ => cct G (pg d kp as un to sc fd tp sh) sp) := by
  refine Cm.start (by decide) (Nat.le_of_ble_eq_true rfl) ?_
  intro p e s m below meth c hf hX hC ls hl
  obtain ⟨hx, hb, hr, hml, hown, hts, hlocks⟩ := hf
  have hl : lv_has ls 1 [(0, .ref (G.ad 25 i0))] := hl
  have hown : s.vm.findClass "OwlEars$Strike" = some m.cls := hown
  refine lv_iconst (v := 0) hx hb dX6_wide_0 rfl ?_
  exact fr_i hx hb hr hlocks hX hC () rfl rfl dX6_wide_1
set_option maxRecDepth 100000 in
theorem m_X11_kind_5 {l : Launch} {G : Gc} {d kp as un to sc fd tp sh : Row} {sp : Nat → Option Nat} (i0 : Nat) (hi : i0 < 8) : Cm l yX11_kind (ws_ yX11_kind cX11_kind 1 (some .int)) ({ frames := 1, cells := 0, slots := 0, locals := 20 }) (cF G) [.ref (G.ad 25 i0)] (cct G (pg d kp as un to sc fd tp sh) sp) (fun _ : Unit => some (.int 5)) (fun _ => cct G (pg d kp as un to sc fd tp sh) sp) := by
  refine Cm.start (by decide) (Nat.le_of_ble_eq_true rfl) ?_
  intro p e s m below meth c hf hX hC ls hl
  obtain ⟨hx, hb, hr, hml, hown, hts, hlocks⟩ := hf
  have hl : lv_has ls 1 [(0, .ref (G.ad 25 i0))] := hl
  have hown : s.vm.findClass "OwlEars$Leafs" = some m.cls := hown
  refine lv_iconst (v := 5) hx hb dX11_kind_0 rfl ?_
  refine lv_aload_n hx hb dX11_kind_1 rfl (lv_at hl 0 rfl) ?_
  refine fc_SU (C := RX11) (fx_at' (ci := 11) (q := (RX11, TX11, 3)) hX rfl).2 (As := []) (rest := [.int 5]) hx hb hml hown hts hX hC (m_X6_kind_5 i0 hi) (lw5 q568 q549 q401 q547 q117) q574 ⟨by decide, by show _ = some 0; decide +kernel⟩ ⟨rfl, rfl⟩ ⟨Nat.le_of_ble_eq_true rfl, Nat.le_of_ble_eq_true rfl⟩ (fx_recv (g := 25) (i := i0) (ci := 11) (q := (RX11, TX11, 3)) hX hC (cin (decide_eq_true hi)) rfl rfl) hl.1 rfl (Nat.le_of_ble_eq_true rfl) ⟨Nat.zero_le _, Nat.zero_le _⟩ dX11_kind_2 (fun _ H locs hC => ?_)
  refine W.eq (g2 := F0 m 5 ls [.int 0, .int 5]) rfl ?_
  refine lv_iadd hx hb dX11_kind_5 ?_
  exact fr_i hx hb hr hlocks hX hC () (congrArg (fun z => some (Value.int z)) (by decide)) rfl dX11_kind_6
set_option maxRecDepth 100000 in
theorem m_X11_takes_5 {l : Launch} {G : Gc} {d kp as un to sc fd tp sh : Row} {sp : Nat → Option Nat} (i0 : Nat) (hi : i0 < 8) : Cm l yX11_takes (ws_ yX11_takes cX11_takes 1 (some .int)) ({ frames := 0, cells := 0, slots := 0, locals := 0 }) (cF G) [.ref (G.ad 25 i0)] (cct G (pg d kp as un to sc fd tp sh) sp) (fun _ : Unit => some (.int 1)) (fun _ => cct G (pg d kp as un to sc fd tp sh) sp) := by
  refine Cm.start (by decide) (Nat.le_of_ble_eq_true rfl) ?_
  intro p e s m below meth c hf hX hC ls hl
  obtain ⟨hx, hb, hr, hml, hown, hts, hlocks⟩ := hf
  have hl : lv_has ls 1 [(0, .ref (G.ad 25 i0))] := hl
  have hown : s.vm.findClass "OwlEars$Leafs" = some m.cls := hown
  refine lv_iconst (v := 1) hx hb dX11_takes_0 rfl ?_
  exact fr_i hx hb hr hlocks hX hC () rfl rfl dX11_takes_1
set_option maxRecDepth 100000 in
theorem m_X11_deep_5 {l : Launch} {G : Gc} {d kp as un to sc fd tp sh : Row} {sp : Nat → Option Nat} (i0 : Nat) (hi : i0 < 8) : Cm l yX11_deep (ws_ yX11_deep cX11_deep 1 (some .int)) ({ frames := 0, cells := 0, slots := 0, locals := 0 }) (cF G) [.ref (G.ad 25 i0)] (cct G (pg d kp as un to sc fd tp sh) sp) (fun _ : Unit => some (.int 0)) (fun _ => cct G (pg d kp as un to sc fd tp sh) sp) := by
  refine Cm.start (by decide) (Nat.le_of_ble_eq_true rfl) ?_
  intro p e s m below meth c hf hX hC ls hl
  obtain ⟨hx, hb, hr, hml, hown, hts, hlocks⟩ := hf
  have hl : lv_has ls 1 [(0, .ref (G.ad 25 i0))] := hl
  have hown : s.vm.findClass "OwlEars$Leafs" = some m.cls := hown
  refine lv_iconst (v := 0) hx hb dX11_deep_0 rfl ?_
  exact fr_i hx hb hr hlocks hX hC () rfl rfl dX11_deep_1
set_option maxRecDepth 100000 in
theorem m_X11_wide_5 {l : Launch} {G : Gc} {d kp as un to sc fd tp sh : Row} {sp : Nat → Option Nat} (i0 : Nat) (hi : i0 < 8) : Cm l yX11_wide (ws_ yX11_wide cX11_wide 1 (some .int)) ({ frames := 1, cells := 0, slots := 0, locals := 20 }) (cF G) [.ref (G.ad 25 i0)] (cct G (pg d kp as un to sc fd tp sh) sp) (fun _ : Unit => some (.int 2)) (fun _ => cct G (pg d kp as un to sc fd tp sh) sp) := by
  refine Cm.start (by decide) (Nat.le_of_ble_eq_true rfl) ?_
  intro p e s m below meth c hf hX hC ls hl
  obtain ⟨hx, hb, hr, hml, hown, hts, hlocks⟩ := hf
  have hl : lv_has ls 1 [(0, .ref (G.ad 25 i0))] := hl
  have hown : s.vm.findClass "OwlEars$Leafs" = some m.cls := hown
  refine lv_iconst (v := 2) hx hb dX11_wide_0 rfl ?_
  refine lv_aload_n hx hb dX11_wide_1 rfl (lv_at hl 0 rfl) ?_
  refine fc_SU (C := RX11) (fx_at' (ci := 11) (q := (RX11, TX11, 3)) hX rfl).2 (As := []) (rest := [.int 2]) hx hb hml hown hts hX hC (m_X6_wide_5 i0 hi) (lw5 q692 q682 q401 q680 q117) q695 ⟨by decide, by show _ = some 0; decide +kernel⟩ ⟨rfl, rfl⟩ ⟨Nat.le_of_ble_eq_true rfl, Nat.le_of_ble_eq_true rfl⟩ (fx_recv (g := 25) (i := i0) (ci := 11) (q := (RX11, TX11, 3)) hX hC (cin (decide_eq_true hi)) rfl rfl) hl.1 rfl (Nat.le_of_ble_eq_true rfl) ⟨Nat.zero_le _, Nat.zero_le _⟩ dX11_wide_2 (fun _ H locs hC => ?_)
  refine W.eq (g2 := F0 m 5 ls [.int 0, .int 2]) rfl ?_
  refine lv_iadd hx hb dX11_wide_5 ?_
  exact fr_i hx hb hr hlocks hX hC () (congrArg (fun z => some (Value.int z)) (by decide)) rfl dX11_wide_6
set_option maxRecDepth 100000 in
theorem m_X6_kind_6 {l : Launch} {G : Gc} {d kp as un to sc fd tp sh : Row} {sp : Nat → Option Nat} (i0 : Nat) (hi : i0 < 8) : Cm l yX6_kind (ws_ yX6_kind cX6_kind 1 (some .int)) ({ frames := 0, cells := 0, slots := 0, locals := 0 }) (cF G) [.ref (G.ad 26 i0)] (cct G (pg d kp as un to sc fd tp sh) sp) (fun _ : Unit => some (.int 0)) (fun _ => cct G (pg d kp as un to sc fd tp sh) sp) := by
  refine Cm.start (by decide) (Nat.le_of_ble_eq_true rfl) ?_
  intro p e s m below meth c hf hX hC ls hl
  obtain ⟨hx, hb, hr, hml, hown, hts, hlocks⟩ := hf
  have hl : lv_has ls 1 [(0, .ref (G.ad 26 i0))] := hl
  have hown : s.vm.findClass "OwlEars$Strike" = some m.cls := hown
  refine lv_iconst (v := 0) hx hb dX6_kind_0 rfl ?_
  exact fr_i hx hb hr hlocks hX hC () rfl rfl dX6_kind_1
set_option maxRecDepth 100000 in
theorem m_X6_takes_6 {l : Launch} {G : Gc} {d kp as un to sc fd tp sh : Row} {sp : Nat → Option Nat} (i0 : Nat) (hi : i0 < 8) : Cm l yX6_takes (ws_ yX6_takes cX6_takes 1 (some .int)) ({ frames := 2, cells := 0, slots := 0, locals := 35 }) (cF G) [.ref (G.ad 26 i0)] (cct G (pg d kp as un to sc fd tp sh) sp) (fun _ : Unit => some (.int (p_apart (d (93 + 4 * i0)) (d 8) + 1))) (fun _ => cct G (pg d kp as un to sc fd tp sh) sp) := by
  refine Cm.start (by decide) (Nat.le_of_ble_eq_true rfl) ?_
  intro p e s m below meth c hf hX hC ls hl
  obtain ⟨hx, hb, hr, hml, hown, hts, hlocks⟩ := hf
  have hl : lv_has ls 1 [(0, .ref (G.ad 26 i0))] := hl
  have hown : s.vm.findClass "OwlEars$Strike" = some m.cls := hown
  refine lv_aload_n hx hb dX6_takes_0 rfl (lv_at hl 0 rfl) ?_
  refine lv_iconst (v := 1) hx hb dX6_takes_1 rfl ?_
  refine fc_U (C := RX12) (owner := "OwlEars$Strike") (x := ⟨"OwlEars$Strike", "told", "(I)I"⟩) (As := [.int 1]) (rest := []) hx hb hml hown hts hX hC (m_X6_told_6_1 i0 hi) (lw5 q592 q595 q597 q593 q117) q602 rfl (by refine ⟨by decide, by decide, ?_⟩; show _ = some 1; decide +kernel) ⟨rfl, rfl⟩ ⟨Nat.le_of_ble_eq_true rfl, Nat.le_of_ble_eq_true rfl⟩ (fx_recv (g := 26) (i := i0) (ci := 12) (q := (RX12, TX12, 4)) hX hC (cin (decide_eq_true hi)) rfl rfl) hl.1 rfl (Nat.le_of_ble_eq_true rfl) ⟨Nat.zero_le _, Nat.zero_le _⟩ dX6_takes_2 (fun _ H locs hC => ?_)
  refine W.eq (g2 := F0 m 5 ls [.int (d (93 + 4 * i0))]) rfl ?_
  refine lv_aload_n hx hb dX6_takes_5 rfl (lv_at hl 0 rfl) ?_
  refine fg_get (C := RX12) (T := TX12) (N := 4) (ci := 12) (g := 26) (i := i0) (v := .ref (G.ad 5 0)) hx hb hown hts hX hC in_X12 rfl (cin (decide_eq_true hi)) rfl 1 (by decide) q343 (fun _ h => h) rfl dX6_takes_6 ?_
  refine fg_getN (C := RX0) (T := TX0) (N := 13) (ci := 1) (g := 5) (i := 0) (v := .ref (G.ad 0 0)) hx hb hown hts hX hC in_X0 rfl (cin rfl) rfl 3 (by decide) (hX.2.2.1.F q424) (fun _ h => h) rfl dX6_takes_9 ?_
  refine fg_getN (C := RX4) (T := TX4) (N := 9) (ci := 0) (g := 0) (i := 0) (v := .ref (G.ad 0 4)) hx hb hown hts hX hC in_X4 rfl (cin rfl) rfl 3 (by decide) (hX.2.2.1.F q248) (fun _ h => h) rfl dX6_takes_12 ?_
  refine lv_iconst (v := 0) hx hb dX6_takes_15 rfl ?_
  refine fg_iald (g := 0) (i := 4) (t0 := 0) (v := d 8) hx hb hX hC (cin rfl) rfl rfl (vin_b rfl) rfl dX6_takes_16 ?_
  refine fc_SN (As := [.int (d (93 + 4 * i0)), .int (d 8)]) (rest := []) hx hb hml hown hts hX hC (m_X0_apart (d (93 + 4 * i0)) (d 8)) (hX.2.2.1.M q603) q497 q108 q498 hdS_X0_apart ⟨rfl, rfl⟩ ⟨Nat.le_of_ble_eq_true rfl, Nat.le_of_ble_eq_true rfl⟩ hl.1 rfl (Nat.le_of_ble_eq_true rfl) ⟨Nat.zero_le _, Nat.zero_le _⟩ dX6_takes_17 (fun _ H locs hC => ?_)
  refine W.eq (g2 := F0 m 20 ls [.int (p_apart (d (93 + 4 * i0)) (d 8))]) rfl ?_
  refine lv_iconst (v := 1) hx hb dX6_takes_20 rfl ?_
  refine lv_iadd hx hb dX6_takes_21 ?_
  exact fr_i hx hb hr hlocks hX hC () (congrArg (fun z => some (Value.int z)) (rfl)) rfl dX6_takes_22
set_option maxRecDepth 100000 in
theorem m_X6_deep_6 {l : Launch} {G : Gc} {d kp as un to sc fd tp sh : Row} {sp : Nat → Option Nat} (i0 : Nat) (hi : i0 < 8) : Cm l yX6_deep (ws_ yX6_deep cX6_deep 1 (some .int)) ({ frames := 0, cells := 0, slots := 0, locals := 0 }) (cF G) [.ref (G.ad 26 i0)] (cct G (pg d kp as un to sc fd tp sh) sp) (fun _ : Unit => some (.int 8)) (fun _ => cct G (pg d kp as un to sc fd tp sh) sp) := by
  refine Cm.start (by decide) (Nat.le_of_ble_eq_true rfl) ?_
  intro p e s m below meth c hf hX hC ls hl
  obtain ⟨hx, hb, hr, hml, hown, hts, hlocks⟩ := hf
  have hl : lv_has ls 1 [(0, .ref (G.ad 26 i0))] := hl
  have hown : s.vm.findClass "OwlEars$Strike" = some m.cls := hown
  refine lv_bipush (v := 8) hx hb dX6_deep_0 rfl ?_
  exact fr_i hx hb hr hlocks hX hC () rfl rfl dX6_deep_2
set_option maxRecDepth 100000 in
theorem m_X6_wide_6 {l : Launch} {G : Gc} {d kp as un to sc fd tp sh : Row} {sp : Nat → Option Nat} (i0 : Nat) (hi : i0 < 8) : Cm l yX6_wide (ws_ yX6_wide cX6_wide 1 (some .int)) ({ frames := 0, cells := 0, slots := 0, locals := 0 }) (cF G) [.ref (G.ad 26 i0)] (cct G (pg d kp as un to sc fd tp sh) sp) (fun _ : Unit => some (.int 0)) (fun _ => cct G (pg d kp as un to sc fd tp sh) sp) := by
  refine Cm.start (by decide) (Nat.le_of_ble_eq_true rfl) ?_
  intro p e s m below meth c hf hX hC ls hl
  obtain ⟨hx, hb, hr, hml, hown, hts, hlocks⟩ := hf
  have hl : lv_has ls 1 [(0, .ref (G.ad 26 i0))] := hl
  have hown : s.vm.findClass "OwlEars$Strike" = some m.cls := hown
  refine lv_iconst (v := 0) hx hb dX6_wide_0 rfl ?_
  exact fr_i hx hb hr hlocks hX hC () rfl rfl dX6_wide_1
set_option maxRecDepth 100000 in
theorem m_X7_kind_6 {l : Launch} {G : Gc} {d kp as un to sc fd tp sh : Row} {sp : Nat → Option Nat} (i0 : Nat) (hi : i0 < 8) : Cm l yX7_kind (ws_ yX7_kind cX7_kind 1 (some .int)) ({ frames := 1, cells := 0, slots := 0, locals := 20 }) (cF G) [.ref (G.ad 26 i0)] (cct G (pg d kp as un to sc fd tp sh) sp) (fun _ : Unit => some (.int 1)) (fun _ => cct G (pg d kp as un to sc fd tp sh) sp) := by
  refine Cm.start (by decide) (Nat.le_of_ble_eq_true rfl) ?_
  intro p e s m below meth c hf hX hC ls hl
  obtain ⟨hx, hb, hr, hml, hown, hts, hlocks⟩ := hf
  have hl : lv_has ls 1 [(0, .ref (G.ad 26 i0))] := hl
  have hown : s.vm.findClass "OwlEars$Sure" = some m.cls := hown
  refine lv_iconst (v := 1) hx hb dX7_kind_0 rfl ?_
  refine lv_aload_n hx hb dX7_kind_1 rfl (lv_at hl 0 rfl) ?_
  refine fc_SU (C := RX12) (fx_at' (ci := 12) (q := (RX12, TX12, 4)) hX rfl).2 (As := []) (rest := [.int 1]) hx hb hml hown hts hX hC (m_X6_kind_6 i0 hi) (lw5 q560 q549 q350 q547 q117) q574 ⟨by decide, by show _ = some 0; decide +kernel⟩ ⟨rfl, rfl⟩ ⟨Nat.le_of_ble_eq_true rfl, Nat.le_of_ble_eq_true rfl⟩ (fx_recv (g := 26) (i := i0) (ci := 12) (q := (RX12, TX12, 4)) hX hC (cin (decide_eq_true hi)) rfl rfl) hl.1 rfl (Nat.le_of_ble_eq_true rfl) ⟨Nat.zero_le _, Nat.zero_le _⟩ dX7_kind_2 (fun _ H locs hC => ?_)
  refine W.eq (g2 := F0 m 5 ls [.int 0, .int 1]) rfl ?_
  refine lv_iadd hx hb dX7_kind_5 ?_
  exact fr_i hx hb hr hlocks hX hC () (congrArg (fun z => some (Value.int z)) (by decide)) rfl dX7_kind_6
set_option maxRecDepth 100000 in
theorem m_X7_takes_6 {l : Launch} {G : Gc} {d kp as un to sc fd tp sh : Row} {sp : Nat → Option Nat} (i0 : Nat) (hi : i0 < 8) : Cm l yX7_takes (ws_ yX7_takes cX7_takes 1 (some .int)) ({ frames := 3, cells := 0, slots := 0, locals := 55 }) (cF G) [.ref (G.ad 26 i0)] (cct G (pg d kp as un to sc fd tp sh) sp) (fun _ : Unit => some (.int ((p_apart (d (93 + 4 * i0)) (d 8)) / 2 + 1))) (fun _ => cct G (pg d kp as un to sc fd tp sh) sp) := by
  refine Cm.start (by decide) (Nat.le_of_ble_eq_true rfl) ?_
  intro p e s m below meth c hf hX hC ls hl
  obtain ⟨hx, hb, hr, hml, hown, hts, hlocks⟩ := hf
  have hl : lv_has ls 1 [(0, .ref (G.ad 26 i0))] := hl
  have hown : s.vm.findClass "OwlEars$Sure" = some m.cls := hown
  refine lv_aload_n hx hb dX7_takes_0 rfl (lv_at hl 0 rfl) ?_
  refine lv_aload_n hx hb dX7_takes_1 rfl (lv_at hl 0 rfl) ?_
  refine fc_SU (C := RX12) (fx_at' (ci := 12) (q := (RX12, TX12, 4)) hX rfl).2 (As := []) (rest := [.ref (G.ad 26 i0)]) hx hb hml hown hts hX hC (m_X6_takes_6 i0 hi) (lw5 q613 q1878 q350 q590 q117) q591 ⟨by decide, by show _ = some 0; decide +kernel⟩ ⟨rfl, rfl⟩ ⟨Nat.le_of_ble_eq_true rfl, Nat.le_of_ble_eq_true rfl⟩ (fx_recv (g := 26) (i := i0) (ci := 12) (q := (RX12, TX12, 4)) hX hC (cin (decide_eq_true hi)) rfl rfl) hl.1 rfl (Nat.le_of_ble_eq_true rfl) ⟨Nat.zero_le _, Nat.zero_le _⟩ dX7_takes_2 (fun _ H locs hC => ?_)
  refine W.eq (g2 := F0 m 5 ls [.int (p_apart (d (93 + 4 * i0)) (d 8) + 1), .ref (G.ad 26 i0)]) rfl ?_
  refine lv_iconst (v := 1) hx hb dX7_takes_5 rfl ?_
  refine lv_isub hx hb dX7_takes_6 ?_
  refine fc_H (C := RX12) (x := ⟨"OwlEars$Sure", "half", "(I)I"⟩) hx hb hml hown hts (hX.2.2.1.D (by decide +kernel) (by decide +kernel) (by decide +kernel) q614) rfl (by decide +kernel) ⟨Nat.le_of_ble_eq_true rfl, Nat.le_of_ble_eq_true rfl⟩ (fx_recv (g := 26) (i := i0) (ci := 12) (q := (RX12, TX12, 4)) hX hC (cin (decide_eq_true hi)) rfl rfl) hl.1 (Nat.le_of_ble_eq_true rfl) dX7_takes_7 ?_
  refine lv_iconst (v := 1) hx hb dX7_takes_10 rfl ?_
  refine lv_iadd hx hb dX7_takes_11 ?_
  exact fr_i hx hb hr hlocks hX hC () (congrArg (fun z => some (Value.int z)) (by rw [i_p1m1])) rfl dX7_takes_12
set_option maxRecDepth 100000 in
theorem m_X7_deep_6 {l : Launch} {G : Gc} {d kp as un to sc fd tp sh : Row} {sp : Nat → Option Nat} (i0 : Nat) (hi : i0 < 8) : Cm l yX7_deep (ws_ yX7_deep cX7_deep 1 (some .int)) ({ frames := 1, cells := 0, slots := 0, locals := 20 }) (cF G) [.ref (G.ad 26 i0)] (cct G (pg d kp as un to sc fd tp sh) sp) (fun _ : Unit => some (.int 12)) (fun _ => cct G (pg d kp as un to sc fd tp sh) sp) := by
  refine Cm.start (by decide) (Nat.le_of_ble_eq_true rfl) ?_
  intro p e s m below meth c hf hX hC ls hl
  obtain ⟨hx, hb, hr, hml, hown, hts, hlocks⟩ := hf
  have hl : lv_has ls 1 [(0, .ref (G.ad 26 i0))] := hl
  have hown : s.vm.findClass "OwlEars$Sure" = some m.cls := hown
  refine lv_aload_n hx hb dX7_deep_0 rfl (lv_at hl 0 rfl) ?_
  refine fc_SU (C := RX12) (fx_at' (ci := 12) (q := (RX12, TX12, 4)) hX rfl).2 (As := []) (rest := []) hx hb hml hown hts hX hC (m_X6_deep_6 i0 hi) (lw5 q666 q655 q350 q653 q117) q678 ⟨by decide, by show _ = some 0; decide +kernel⟩ ⟨rfl, rfl⟩ ⟨Nat.le_of_ble_eq_true rfl, Nat.le_of_ble_eq_true rfl⟩ (fx_recv (g := 26) (i := i0) (ci := 12) (q := (RX12, TX12, 4)) hX hC (cin (decide_eq_true hi)) rfl rfl) hl.1 rfl (Nat.le_of_ble_eq_true rfl) ⟨Nat.zero_le _, Nat.zero_le _⟩ dX7_deep_1 (fun _ H locs hC => ?_)
  refine W.eq (g2 := F0 m 4 ls [.int 8]) rfl ?_
  refine lv_iconst (v := 4) hx hb dX7_deep_4 rfl ?_
  refine lv_iadd hx hb dX7_deep_5 ?_
  exact fr_i hx hb hr hlocks hX hC () (congrArg (fun z => some (Value.int z)) (by decide)) rfl dX7_deep_6
set_option maxRecDepth 100000 in
theorem m_X12_kind_6 {l : Launch} {G : Gc} {d kp as un to sc fd tp sh : Row} {sp : Nat → Option Nat} (i0 : Nat) (hi : i0 < 8) : Cm l yX12_kind (ws_ yX12_kind cX12_kind 1 (some .int)) ({ frames := 2, cells := 0, slots := 0, locals := 40 }) (cF G) [.ref (G.ad 26 i0)] (cct G (pg d kp as un to sc fd tp sh) sp) (fun _ : Unit => some (.int 6)) (fun _ => cct G (pg d kp as un to sc fd tp sh) sp) := by
  refine Cm.start (by decide) (Nat.le_of_ble_eq_true rfl) ?_
  intro p e s m below meth c hf hX hC ls hl
  obtain ⟨hx, hb, hr, hml, hown, hts, hlocks⟩ := hf
  have hl : lv_has ls 1 [(0, .ref (G.ad 26 i0))] := hl
  have hown : s.vm.findClass "OwlEars$Crusted" = some m.cls := hown
  refine lv_iconst (v := 5) hx hb dX12_kind_0 rfl ?_
  refine lv_aload_n hx hb dX12_kind_1 rfl (lv_at hl 0 rfl) ?_
  refine fc_SU (C := RX12) (fx_at' (ci := 12) (q := (RX12, TX12, 4)) hX rfl).2 (As := []) (rest := [.int 5]) hx hb hml hown hts hX hC (m_X7_kind_6 i0 hi) (lw5 q557 q1875 q414 q558 q118) q559 ⟨by decide, by show _ = some 0; decide +kernel⟩ ⟨rfl, rfl⟩ ⟨Nat.le_of_ble_eq_true rfl, Nat.le_of_ble_eq_true rfl⟩ (fx_recv (g := 26) (i := i0) (ci := 12) (q := (RX12, TX12, 4)) hX hC (cin (decide_eq_true hi)) rfl rfl) hl.1 rfl (Nat.le_of_ble_eq_true rfl) ⟨Nat.zero_le _, Nat.zero_le _⟩ dX12_kind_2 (fun _ H locs hC => ?_)
  refine W.eq (g2 := F0 m 5 ls [.int 1, .int 5]) rfl ?_
  refine lv_iadd hx hb dX12_kind_5 ?_
  exact fr_i hx hb hr hlocks hX hC () (congrArg (fun z => some (Value.int z)) (by decide)) rfl dX12_kind_6
set_option maxRecDepth 100000 in
theorem m_X12_takes_6 {l : Launch} {G : Gc} {d kp as un to sc fd tp sh : Row} {sp : Nat → Option Nat} (i0 : Nat) (hi : i0 < 8) : Cm l yX12_takes (ws_ yX12_takes cX12_takes 1 (some .int)) ({ frames := 4, cells := 0, slots := 0, locals := 75 }) (cF G) [.ref (G.ad 26 i0)] (cct G (pg d kp as un to sc fd tp sh) sp) (fun _ : Unit => some (.int ((p_apart (d (93 + 4 * i0)) (d 8)) / 2 + 2))) (fun _ => cct G (pg d kp as un to sc fd tp sh) sp) := by
  refine Cm.start (by decide) (Nat.le_of_ble_eq_true rfl) ?_
  intro p e s m below meth c hf hX hC ls hl
  obtain ⟨hx, hb, hr, hml, hown, hts, hlocks⟩ := hf
  have hl : lv_has ls 1 [(0, .ref (G.ad 26 i0))] := hl
  have hown : s.vm.findClass "OwlEars$Crusted" = some m.cls := hown
  refine lv_aload_n hx hb dX12_takes_0 rfl (lv_at hl 0 rfl) ?_
  refine fc_SU (C := RX12) (fx_at' (ci := 12) (q := (RX12, TX12, 4)) hX rfl).2 (As := []) (rest := []) hx hb hml hown hts hX hC (m_X7_takes_6 i0 hi) (lw5 q610 q1879 q414 q611 q118) q612 ⟨by decide, by show _ = some 0; decide +kernel⟩ ⟨rfl, rfl⟩ ⟨Nat.le_of_ble_eq_true rfl, Nat.le_of_ble_eq_true rfl⟩ (fx_recv (g := 26) (i := i0) (ci := 12) (q := (RX12, TX12, 4)) hX hC (cin (decide_eq_true hi)) rfl rfl) hl.1 rfl (Nat.le_of_ble_eq_true rfl) ⟨Nat.zero_le _, Nat.zero_le _⟩ dX12_takes_1 (fun _ H locs hC => ?_)
  refine W.eq (g2 := F0 m 4 ls [.int ((p_apart (d (93 + 4 * i0)) (d 8)) / 2 + 1)]) rfl ?_
  refine lv_iconst (v := 1) hx hb dX12_takes_4 rfl ?_
  refine lv_iadd hx hb dX12_takes_5 ?_
  exact fr_i hx hb hr hlocks hX hC () (congrArg (fun z => some (Value.int z)) ((Int32.add_assoc _ 1 1).symm)) rfl dX12_takes_6
set_option maxRecDepth 100000 in
theorem m_X12_deep_6 {l : Launch} {G : Gc} {d kp as un to sc fd tp sh : Row} {sp : Nat → Option Nat} (i0 : Nat) (hi : i0 < 8) : Cm l yX12_deep (ws_ yX12_deep cX12_deep 1 (some .int)) ({ frames := 2, cells := 0, slots := 0, locals := 40 }) (cF G) [.ref (G.ad 26 i0)] (cct G (pg d kp as un to sc fd tp sh) sp) (fun _ : Unit => some (.int 6)) (fun _ => cct G (pg d kp as un to sc fd tp sh) sp) := by
  refine Cm.start (by decide) (Nat.le_of_ble_eq_true rfl) ?_
  intro p e s m below meth c hf hX hC ls hl
  obtain ⟨hx, hb, hr, hml, hown, hts, hlocks⟩ := hf
  have hl : lv_has ls 1 [(0, .ref (G.ad 26 i0))] := hl
  have hown : s.vm.findClass "OwlEars$Crusted" = some m.cls := hown
  refine lv_aload_n hx hb dX12_deep_0 rfl (lv_at hl 0 rfl) ?_
  refine lv_aload_n hx hb dX12_deep_1 rfl (lv_at hl 0 rfl) ?_
  refine fc_SU (C := RX12) (fx_at' (ci := 12) (q := (RX12, TX12, 4)) hX rfl).2 (As := []) (rest := [.ref (G.ad 26 i0)]) hx hb hml hown hts hX hC (m_X7_deep_6 i0 hi) (lw5 q663 q1882 q414 q664 q118) q665 ⟨by decide, by show _ = some 0; decide +kernel⟩ ⟨rfl, rfl⟩ ⟨Nat.le_of_ble_eq_true rfl, Nat.le_of_ble_eq_true rfl⟩ (fx_recv (g := 26) (i := i0) (ci := 12) (q := (RX12, TX12, 4)) hX hC (cin (decide_eq_true hi)) rfl rfl) hl.1 rfl (Nat.le_of_ble_eq_true rfl) ⟨Nat.zero_le _, Nat.zero_le _⟩ dX12_deep_2 (fun _ H locs hC => ?_)
  refine W.eq (g2 := F0 m 5 ls [.int 12, .ref (G.ad 26 i0)]) rfl ?_
  refine fc_H (C := RX12) (x := ⟨"OwlEars$Crusted", "half", "(I)I"⟩) hx hb hml hown hts (hX.2.2.1.D (by decide +kernel) (by decide +kernel) (by decide +kernel) q614) rfl (by decide +kernel) ⟨Nat.le_of_ble_eq_true rfl, Nat.le_of_ble_eq_true rfl⟩ (fx_recv (g := 26) (i := i0) (ci := 12) (q := (RX12, TX12, 4)) hX hC (cin (decide_eq_true hi)) rfl rfl) hl.1 (Nat.le_of_ble_eq_true rfl) dX12_deep_5 ?_
  exact fr_i hx hb hr hlocks hX hC () (congrArg (fun z => some (Value.int z)) (by decide)) rfl dX12_deep_8
set_option maxRecDepth 100000 in
theorem m_X6_isUnder_0 {l : Launch} {G : Gc} {d kp as un to sc fd tp sh : Row} {sp : Nat → Option Nat} (i0 : Nat) (hi : i0 < 8) (q : Int32) : Cm l yX6_isUnder (ws_ yX6_isUnder cX6_isUnder 2 (some .boolean)) ({ frames := 1, cells := 0, slots := 0, locals := 20 }) (cF G) [.ref (G.ad 20 i0), .int q] (cct G (pg d kp as un to sc fd tp sh) sp) (fun _ : Unit => some (.int (b2i (q = 0 ∨ q = 0)))) (fun _ => cct G (pg d kp as un to sc fd tp sh) sp) := by
  refine Cm.start (by decide) (Nat.le_of_ble_eq_true rfl) ?_
  intro p e s m below meth c hf hX hC ls hl
  obtain ⟨hx, hb, hr, hml, hown, hts, hlocks⟩ := hf
  have hl : lv_has ls 2 [(0, .ref (G.ad 20 i0)), (1, .int q)] := hl
  have hown : s.vm.findClass "OwlEars$Strike" = some m.cls := hown
  refine lv_iload_n hx hb dX6_isUnder_0 rfl (lv_at hl 1 rfl) ?_
  refine lv_if_eq (tgt := 12) hx hb dX6_isUnder_1 (by decide) (fun c_1 => ?_) (fun c_1 => ?_)
  · refine lv_iconst (v := 1) hx hb dX6_isUnder_12 rfl ?_
    refine lv_goto (tgt := 17) hx hb dX6_isUnder_13 (by decide) ?_
    exact fr_z hx hb hr rfl hlocks hX hC () (congrArg (fun z => some (Value.int z)) (b2i_t (by grind))) rfl dX6_isUnder_17
  · refine lv_iload_n hx hb dX6_isUnder_4 rfl (lv_at hl 1 rfl) ?_
    refine lv_aload_n hx hb dX6_isUnder_5 rfl (lv_at hl 0 rfl) ?_
    refine fc_V (As := []) (rest := [.int q]) hx hb hml hown hts hX hC (m_X6_kind_0 i0 hi) (lw_V q1215 q547 q548 q117 q574) hdV_X6_kind ⟨rfl, rfl⟩ ⟨Nat.le_of_ble_eq_true rfl, Nat.le_of_ble_eq_true rfl⟩ (fx_recv (g := 20) (i := i0) (ci := 6) (q := (RX6, TX6, 2)) hX hC (cin (decide_eq_true hi)) rfl rfl) hl.1 rfl (Nat.le_of_ble_eq_true rfl) ⟨Nat.zero_le _, Nat.zero_le _⟩ dX6_isUnder_6 (fun _ H locs hC => ?_)
    refine W.eq (g2 := F0 m 9 ls [.int 0, .int q]) rfl ?_
    refine lv_icmp_ne (tgt := 16) hx hb dX6_isUnder_9 (by decide) (fun _ => ?_) (fun z_3 => absurd z_3 c_1)
    refine lv_iconst (v := 0) hx hb dX6_isUnder_16 rfl ?_
    exact fr_z hx hb hr rfl hlocks hX hC () (congrArg (fun z => some (Value.int z)) (b2i_f (by grind))) rfl dX6_isUnder_17
set_option maxRecDepth 100000 in
theorem m_X6_isUnder_1 {l : Launch} {G : Gc} {d kp as un to sc fd tp sh : Row} {sp : Nat → Option Nat} (i0 : Nat) (hi : i0 < 8) (q : Int32) : Cm l yX6_isUnder (ws_ yX6_isUnder cX6_isUnder 2 (some .boolean)) ({ frames := 2, cells := 0, slots := 0, locals := 40 }) (cF G) [.ref (G.ad 21 i0), .int q] (cct G (pg d kp as un to sc fd tp sh) sp) (fun _ : Unit => some (.int (b2i (q = 0 ∨ q = 1)))) (fun _ => cct G (pg d kp as un to sc fd tp sh) sp) := by
  refine Cm.start (by decide) (Nat.le_of_ble_eq_true rfl) ?_
  intro p e s m below meth c hf hX hC ls hl
  obtain ⟨hx, hb, hr, hml, hown, hts, hlocks⟩ := hf
  have hl : lv_has ls 2 [(0, .ref (G.ad 21 i0)), (1, .int q)] := hl
  have hown : s.vm.findClass "OwlEars$Strike" = some m.cls := hown
  refine lv_iload_n hx hb dX6_isUnder_0 rfl (lv_at hl 1 rfl) ?_
  refine lv_if_eq (tgt := 12) hx hb dX6_isUnder_1 (by decide) (fun c_1 => ?_) (fun c_1 => ?_)
  · refine lv_iconst (v := 1) hx hb dX6_isUnder_12 rfl ?_
    refine lv_goto (tgt := 17) hx hb dX6_isUnder_13 (by decide) ?_
    exact fr_z hx hb hr rfl hlocks hX hC () (congrArg (fun z => some (Value.int z)) (b2i_t (by grind))) rfl dX6_isUnder_17
  · refine lv_iload_n hx hb dX6_isUnder_4 rfl (lv_at hl 1 rfl) ?_
    refine lv_aload_n hx hb dX6_isUnder_5 rfl (lv_at hl 0 rfl) ?_
    refine fc_O (C := RX7) (owner := "OwlEars$Strike") (x := ⟨"OwlEars$Strike", "kind", "()I"⟩) (As := []) (rest := [.int q]) hx hb hml hown hts hX hC (m_X7_kind_1 i0 hi) (lw6 q1215 q549 q547 q569 q558 q118) q559 q574 (by refine ⟨by decide, by decide, ?_⟩; show _ = some 0; decide +kernel) ⟨rfl, rfl⟩ ⟨Nat.le_of_ble_eq_true rfl, Nat.le_of_ble_eq_true rfl⟩ (fx_recv (g := 21) (i := i0) (ci := 7) (q := (RX7, TX7, 3)) hX hC (cin (decide_eq_true hi)) rfl rfl) hl.1 rfl (Nat.le_of_ble_eq_true rfl) ⟨Nat.zero_le _, Nat.zero_le _⟩ dX6_isUnder_6 (fun _ H locs hC => ?_)
    refine W.eq (g2 := F0 m 9 ls [.int 1, .int q]) rfl ?_
    refine lv_icmp_ne (tgt := 16) hx hb dX6_isUnder_9 (by decide) (fun c_3 => ?_) (fun c_3 => ?_)
    · refine lv_iconst (v := 0) hx hb dX6_isUnder_16 rfl ?_
      exact fr_z hx hb hr rfl hlocks hX hC () (congrArg (fun z => some (Value.int z)) (b2i_f (by grind))) rfl dX6_isUnder_17
    · refine lv_iconst (v := 1) hx hb dX6_isUnder_12 rfl ?_
      refine lv_goto (tgt := 17) hx hb dX6_isUnder_13 (by decide) ?_
      exact fr_z hx hb hr rfl hlocks hX hC () (congrArg (fun z => some (Value.int z)) (b2i_t (by grind))) rfl dX6_isUnder_17
set_option maxRecDepth 100000 in
theorem m_X7_isUnder_1 {l : Launch} {G : Gc} {d kp as un to sc fd tp sh : Row} {sp : Nat → Option Nat} (i0 : Nat) (hi : i0 < 8) (q : Int32) : Cm l yX7_isUnder (ws_ yX7_isUnder cX7_isUnder 2 (some .boolean)) ({ frames := 3, cells := 0, slots := 0, locals := 61 }) (cF G) [.ref (G.ad 21 i0), .int q] (cct G (pg d kp as un to sc fd tp sh) sp) (fun _ : Unit => some (.int (b2i (q = 1 ∨ q = 0 ∨ q = 1)))) (fun _ => cct G (pg d kp as un to sc fd tp sh) sp) := by
  refine Cm.start (by decide) (Nat.le_of_ble_eq_true rfl) ?_
  intro p e s m below meth c hf hX hC ls hl
  obtain ⟨hx, hb, hr, hml, hown, hts, hlocks⟩ := hf
  have hl : lv_has ls 2 [(0, .ref (G.ad 21 i0)), (1, .int q)] := hl
  have hown : s.vm.findClass "OwlEars$Sure" = some m.cls := hown
  refine lv_iload_n hx hb dX7_isUnder_0 rfl (lv_at hl 1 rfl) ?_
  refine lv_iconst (v := 1) hx hb dX7_isUnder_1 rfl ?_
  refine lv_icmp_eq (tgt := 13) hx hb dX7_isUnder_2 (by decide) (fun c_1 => ?_) (fun c_1 => ?_)
  · refine lv_iconst (v := 1) hx hb dX7_isUnder_13 rfl ?_
    refine lv_goto (tgt := 18) hx hb dX7_isUnder_14 (by decide) ?_
    exact fr_z hx hb hr rfl hlocks hX hC () (congrArg (fun z => some (Value.int z)) (b2i_t (by grind))) rfl dX7_isUnder_18
  · refine lv_aload_n hx hb dX7_isUnder_5 rfl (lv_at hl 0 rfl) ?_
    refine lv_iload_n hx hb dX7_isUnder_6 rfl (lv_at hl 1 rfl) ?_
    refine fc_SU (C := RX7) (fx_at' (ci := 7) (q := (RX7, TX7, 3)) hX rfl).2 (As := [.int q]) (rest := []) hx hb hml hown hts hX hC (m_X6_isUnder_1 i0 hi q) (lw5 q1206 q1198 q350 q1196 q117) q1214 ⟨by decide, by show _ = some 1; decide +kernel⟩ ⟨rfl, rfl⟩ ⟨Nat.le_of_ble_eq_true rfl, Nat.le_of_ble_eq_true rfl⟩ (fx_recv (g := 21) (i := i0) (ci := 7) (q := (RX7, TX7, 3)) hX hC (cin (decide_eq_true hi)) rfl rfl) hl.1 rfl (Nat.le_of_ble_eq_true rfl) ⟨Nat.zero_le _, Nat.zero_le _⟩ dX7_isUnder_7 (fun _ H locs hC => ?_)
    refine W.eq (g2 := F0 m 10 ls [.int (b2i (q = 0 ∨ q = 1))]) rfl ?_
    refine fb_eq (tgt := 17) hx hb dX7_isUnder_10 (by decide) (fun c_3 => ?_) (fun c_3 => ?_)
    · refine lv_iconst (v := 0) hx hb dX7_isUnder_17 rfl ?_
      exact fr_z hx hb hr rfl hlocks hX hC () (congrArg (fun z => some (Value.int z)) (b2i_f (by grind))) rfl dX7_isUnder_18
    · refine lv_iconst (v := 1) hx hb dX7_isUnder_13 rfl ?_
      refine lv_goto (tgt := 18) hx hb dX7_isUnder_14 (by decide) ?_
      exact fr_z hx hb hr rfl hlocks hX hC () (congrArg (fun z => some (Value.int z)) (b2i_t (by grind))) rfl dX7_isUnder_18
set_option maxRecDepth 100000 in
theorem m_X6_isUnder_2 {l : Launch} {G : Gc} {d kp as un to sc fd tp sh : Row} {sp : Nat → Option Nat} (i0 : Nat) (hi : i0 < 8) (q : Int32) : Cm l yX6_isUnder (ws_ yX6_isUnder cX6_isUnder 2 (some .boolean)) ({ frames := 2, cells := 0, slots := 0, locals := 40 }) (cF G) [.ref (G.ad 22 i0), .int q] (cct G (pg d kp as un to sc fd tp sh) sp) (fun _ : Unit => some (.int (b2i (q = 0 ∨ q = 2)))) (fun _ => cct G (pg d kp as un to sc fd tp sh) sp) := by
  refine Cm.start (by decide) (Nat.le_of_ble_eq_true rfl) ?_
  intro p e s m below meth c hf hX hC ls hl
  obtain ⟨hx, hb, hr, hml, hown, hts, hlocks⟩ := hf
  have hl : lv_has ls 2 [(0, .ref (G.ad 22 i0)), (1, .int q)] := hl
  have hown : s.vm.findClass "OwlEars$Strike" = some m.cls := hown
  refine lv_iload_n hx hb dX6_isUnder_0 rfl (lv_at hl 1 rfl) ?_
  refine lv_if_eq (tgt := 12) hx hb dX6_isUnder_1 (by decide) (fun c_1 => ?_) (fun c_1 => ?_)
  · refine lv_iconst (v := 1) hx hb dX6_isUnder_12 rfl ?_
    refine lv_goto (tgt := 17) hx hb dX6_isUnder_13 (by decide) ?_
    exact fr_z hx hb hr rfl hlocks hX hC () (congrArg (fun z => some (Value.int z)) (b2i_t (by grind))) rfl dX6_isUnder_17
  · refine lv_iload_n hx hb dX6_isUnder_4 rfl (lv_at hl 1 rfl) ?_
    refine lv_aload_n hx hb dX6_isUnder_5 rfl (lv_at hl 0 rfl) ?_
    refine fc_O (C := RX8) (owner := "OwlEars$Strike") (x := ⟨"OwlEars$Strike", "kind", "()I"⟩) (As := []) (rest := [.int q]) hx hb hml hown hts hX hC (m_X8_kind_2 i0 hi) (lw6 q1215 q549 q547 q550 q551 q119) q552 q574 (by refine ⟨by decide, by decide, ?_⟩; show _ = some 0; decide +kernel) ⟨rfl, rfl⟩ ⟨Nat.le_of_ble_eq_true rfl, Nat.le_of_ble_eq_true rfl⟩ (fx_recv (g := 22) (i := i0) (ci := 8) (q := (RX8, TX8, 3)) hX hC (cin (decide_eq_true hi)) rfl rfl) hl.1 rfl (Nat.le_of_ble_eq_true rfl) ⟨Nat.zero_le _, Nat.zero_le _⟩ dX6_isUnder_6 (fun _ H locs hC => ?_)
    refine W.eq (g2 := F0 m 9 ls [.int 2, .int q]) rfl ?_
    refine lv_icmp_ne (tgt := 16) hx hb dX6_isUnder_9 (by decide) (fun c_3 => ?_) (fun c_3 => ?_)
    · refine lv_iconst (v := 0) hx hb dX6_isUnder_16 rfl ?_
      exact fr_z hx hb hr rfl hlocks hX hC () (congrArg (fun z => some (Value.int z)) (b2i_f (by grind))) rfl dX6_isUnder_17
    · refine lv_iconst (v := 1) hx hb dX6_isUnder_12 rfl ?_
      refine lv_goto (tgt := 17) hx hb dX6_isUnder_13 (by decide) ?_
      exact fr_z hx hb hr rfl hlocks hX hC () (congrArg (fun z => some (Value.int z)) (b2i_t (by grind))) rfl dX6_isUnder_17
set_option maxRecDepth 100000 in
theorem m_X8_isUnder_2 {l : Launch} {G : Gc} {d kp as un to sc fd tp sh : Row} {sp : Nat → Option Nat} (i0 : Nat) (hi : i0 < 8) (q : Int32) : Cm l yX8_isUnder (ws_ yX8_isUnder cX8_isUnder 2 (some .boolean)) ({ frames := 3, cells := 0, slots := 0, locals := 61 }) (cF G) [.ref (G.ad 22 i0), .int q] (cct G (pg d kp as un to sc fd tp sh) sp) (fun _ : Unit => some (.int (b2i (q = 2 ∨ q = 0 ∨ q = 2)))) (fun _ => cct G (pg d kp as un to sc fd tp sh) sp) := by
  refine Cm.start (by decide) (Nat.le_of_ble_eq_true rfl) ?_
  intro p e s m below meth c hf hX hC ls hl
  obtain ⟨hx, hb, hr, hml, hown, hts, hlocks⟩ := hf
  have hl : lv_has ls 2 [(0, .ref (G.ad 22 i0)), (1, .int q)] := hl
  have hown : s.vm.findClass "OwlEars$Aslant" = some m.cls := hown
  refine lv_iload_n hx hb dX8_isUnder_0 rfl (lv_at hl 1 rfl) ?_
  refine lv_iconst (v := 2) hx hb dX8_isUnder_1 rfl ?_
  refine lv_icmp_eq (tgt := 13) hx hb dX8_isUnder_2 (by decide) (fun c_1 => ?_) (fun c_1 => ?_)
  · refine lv_iconst (v := 1) hx hb dX8_isUnder_13 rfl ?_
    refine lv_goto (tgt := 18) hx hb dX8_isUnder_14 (by decide) ?_
    exact fr_z hx hb hr rfl hlocks hX hC () (congrArg (fun z => some (Value.int z)) (b2i_t (by grind))) rfl dX8_isUnder_18
  · refine lv_aload_n hx hb dX8_isUnder_5 rfl (lv_at hl 0 rfl) ?_
    refine lv_iload_n hx hb dX8_isUnder_6 rfl (lv_at hl 1 rfl) ?_
    refine fc_SU (C := RX8) (fx_at' (ci := 8) (q := (RX8, TX8, 3)) hX rfl).2 (As := [.int q]) (rest := []) hx hb hml hown hts hX hC (m_X6_isUnder_2 i0 hi q) (lw5 q1202 q1198 q362 q1196 q117) q1214 ⟨by decide, by show _ = some 1; decide +kernel⟩ ⟨rfl, rfl⟩ ⟨Nat.le_of_ble_eq_true rfl, Nat.le_of_ble_eq_true rfl⟩ (fx_recv (g := 22) (i := i0) (ci := 8) (q := (RX8, TX8, 3)) hX hC (cin (decide_eq_true hi)) rfl rfl) hl.1 rfl (Nat.le_of_ble_eq_true rfl) ⟨Nat.zero_le _, Nat.zero_le _⟩ dX8_isUnder_7 (fun _ H locs hC => ?_)
    refine W.eq (g2 := F0 m 10 ls [.int (b2i (q = 0 ∨ q = 2))]) rfl ?_
    refine fb_eq (tgt := 17) hx hb dX8_isUnder_10 (by decide) (fun c_3 => ?_) (fun c_3 => ?_)
    · refine lv_iconst (v := 0) hx hb dX8_isUnder_17 rfl ?_
      exact fr_z hx hb hr rfl hlocks hX hC () (congrArg (fun z => some (Value.int z)) (b2i_f (by grind))) rfl dX8_isUnder_18
    · refine lv_iconst (v := 1) hx hb dX8_isUnder_13 rfl ?_
      refine lv_goto (tgt := 18) hx hb dX8_isUnder_14 (by decide) ?_
      exact fr_z hx hb hr rfl hlocks hX hC () (congrArg (fun z => some (Value.int z)) (b2i_t (by grind))) rfl dX8_isUnder_18
set_option maxRecDepth 100000 in
theorem m_X6_isUnder_3 {l : Launch} {G : Gc} {d kp as un to sc fd tp sh : Row} {sp : Nat → Option Nat} (i0 : Nat) (hi : i0 < 8) (q : Int32) : Cm l yX6_isUnder (ws_ yX6_isUnder cX6_isUnder 2 (some .boolean)) ({ frames := 3, cells := 0, slots := 0, locals := 60 }) (cF G) [.ref (G.ad 23 i0), .int q] (cct G (pg d kp as un to sc fd tp sh) sp) (fun _ : Unit => some (.int (b2i (q = 0 ∨ q = 3)))) (fun _ => cct G (pg d kp as un to sc fd tp sh) sp) := by
  refine Cm.start (by decide) (Nat.le_of_ble_eq_true rfl) ?_
  intro p e s m below meth c hf hX hC ls hl
  obtain ⟨hx, hb, hr, hml, hown, hts, hlocks⟩ := hf
  have hl : lv_has ls 2 [(0, .ref (G.ad 23 i0)), (1, .int q)] := hl
  have hown : s.vm.findClass "OwlEars$Strike" = some m.cls := hown
  refine lv_iload_n hx hb dX6_isUnder_0 rfl (lv_at hl 1 rfl) ?_
  refine lv_if_eq (tgt := 12) hx hb dX6_isUnder_1 (by decide) (fun c_1 => ?_) (fun c_1 => ?_)
  · refine lv_iconst (v := 1) hx hb dX6_isUnder_12 rfl ?_
    refine lv_goto (tgt := 17) hx hb dX6_isUnder_13 (by decide) ?_
    exact fr_z hx hb hr rfl hlocks hX hC () (congrArg (fun z => some (Value.int z)) (b2i_t (by grind))) rfl dX6_isUnder_17
  · refine lv_iload_n hx hb dX6_isUnder_4 rfl (lv_at hl 1 rfl) ?_
    refine lv_aload_n hx hb dX6_isUnder_5 rfl (lv_at hl 0 rfl) ?_
    refine fc_O (C := RX9) (owner := "OwlEars$Strike") (x := ⟨"OwlEars$Strike", "kind", "()I"⟩) (As := []) (rest := [.int q]) hx hb hml hown hts hX hC (m_X9_kind_3 i0 hi) (lw6 q1215 q549 q547 q561 q562 q120) q563 q574 (by refine ⟨by decide, by decide, ?_⟩; show _ = some 0; decide +kernel) ⟨rfl, rfl⟩ ⟨Nat.le_of_ble_eq_true rfl, Nat.le_of_ble_eq_true rfl⟩ (fx_recv (g := 23) (i := i0) (ci := 9) (q := (RX9, TX9, 4)) hX hC (cin (decide_eq_true hi)) rfl rfl) hl.1 rfl (Nat.le_of_ble_eq_true rfl) ⟨Nat.zero_le _, Nat.zero_le _⟩ dX6_isUnder_6 (fun _ H locs hC => ?_)
    refine W.eq (g2 := F0 m 9 ls [.int 3, .int q]) rfl ?_
    refine lv_icmp_ne (tgt := 16) hx hb dX6_isUnder_9 (by decide) (fun c_3 => ?_) (fun c_3 => ?_)
    · refine lv_iconst (v := 0) hx hb dX6_isUnder_16 rfl ?_
      exact fr_z hx hb hr rfl hlocks hX hC () (congrArg (fun z => some (Value.int z)) (b2i_f (by grind))) rfl dX6_isUnder_17
    · refine lv_iconst (v := 1) hx hb dX6_isUnder_12 rfl ?_
      refine lv_goto (tgt := 17) hx hb dX6_isUnder_13 (by decide) ?_
      exact fr_z hx hb hr rfl hlocks hX hC () (congrArg (fun z => some (Value.int z)) (b2i_t (by grind))) rfl dX6_isUnder_17
set_option maxRecDepth 100000 in
theorem m_X8_isUnder_3 {l : Launch} {G : Gc} {d kp as un to sc fd tp sh : Row} {sp : Nat → Option Nat} (i0 : Nat) (hi : i0 < 8) (q : Int32) : Cm l yX8_isUnder (ws_ yX8_isUnder cX8_isUnder 2 (some .boolean)) ({ frames := 4, cells := 0, slots := 0, locals := 81 }) (cF G) [.ref (G.ad 23 i0), .int q] (cct G (pg d kp as un to sc fd tp sh) sp) (fun _ : Unit => some (.int (b2i (q = 2 ∨ q = 0 ∨ q = 3)))) (fun _ => cct G (pg d kp as un to sc fd tp sh) sp) := by
  refine Cm.start (by decide) (Nat.le_of_ble_eq_true rfl) ?_
  intro p e s m below meth c hf hX hC ls hl
  obtain ⟨hx, hb, hr, hml, hown, hts, hlocks⟩ := hf
  have hl : lv_has ls 2 [(0, .ref (G.ad 23 i0)), (1, .int q)] := hl
  have hown : s.vm.findClass "OwlEars$Aslant" = some m.cls := hown
  refine lv_iload_n hx hb dX8_isUnder_0 rfl (lv_at hl 1 rfl) ?_
  refine lv_iconst (v := 2) hx hb dX8_isUnder_1 rfl ?_
  refine lv_icmp_eq (tgt := 13) hx hb dX8_isUnder_2 (by decide) (fun c_1 => ?_) (fun c_1 => ?_)
  · refine lv_iconst (v := 1) hx hb dX8_isUnder_13 rfl ?_
    refine lv_goto (tgt := 18) hx hb dX8_isUnder_14 (by decide) ?_
    exact fr_z hx hb hr rfl hlocks hX hC () (congrArg (fun z => some (Value.int z)) (b2i_t (by grind))) rfl dX8_isUnder_18
  · refine lv_aload_n hx hb dX8_isUnder_5 rfl (lv_at hl 0 rfl) ?_
    refine lv_iload_n hx hb dX8_isUnder_6 rfl (lv_at hl 1 rfl) ?_
    refine fc_SU (C := RX9) (fx_at' (ci := 9) (q := (RX9, TX9, 4)) hX rfl).2 (As := [.int q]) (rest := []) hx hb hml hown hts hX hC (m_X6_isUnder_3 i0 hi q) (lw5 q1202 q1198 q362 q1196 q117) q1214 ⟨by decide, by show _ = some 1; decide +kernel⟩ ⟨rfl, rfl⟩ ⟨Nat.le_of_ble_eq_true rfl, Nat.le_of_ble_eq_true rfl⟩ (fx_recv (g := 23) (i := i0) (ci := 9) (q := (RX9, TX9, 4)) hX hC (cin (decide_eq_true hi)) rfl rfl) hl.1 rfl (Nat.le_of_ble_eq_true rfl) ⟨Nat.zero_le _, Nat.zero_le _⟩ dX8_isUnder_7 (fun _ H locs hC => ?_)
    refine W.eq (g2 := F0 m 10 ls [.int (b2i (q = 0 ∨ q = 3))]) rfl ?_
    refine fb_eq (tgt := 17) hx hb dX8_isUnder_10 (by decide) (fun c_3 => ?_) (fun c_3 => ?_)
    · refine lv_iconst (v := 0) hx hb dX8_isUnder_17 rfl ?_
      exact fr_z hx hb hr rfl hlocks hX hC () (congrArg (fun z => some (Value.int z)) (b2i_f (by grind))) rfl dX8_isUnder_18
    · refine lv_iconst (v := 1) hx hb dX8_isUnder_13 rfl ?_
      refine lv_goto (tgt := 18) hx hb dX8_isUnder_14 (by decide) ?_
      exact fr_z hx hb hr rfl hlocks hX hC () (congrArg (fun z => some (Value.int z)) (b2i_t (by grind))) rfl dX8_isUnder_18
set_option maxRecDepth 100000 in
theorem m_X9_isUnder_3 {l : Launch} {G : Gc} {d kp as un to sc fd tp sh : Row} {sp : Nat → Option Nat} (i0 : Nat) (hi : i0 < 8) (q : Int32) : Cm l yX9_isUnder (ws_ yX9_isUnder cX9_isUnder 2 (some .boolean)) ({ frames := 5, cells := 0, slots := 0, locals := 102 }) (cF G) [.ref (G.ad 23 i0), .int q] (cct G (pg d kp as un to sc fd tp sh) sp) (fun _ : Unit => some (.int (b2i (q = 3 ∨ q = 2 ∨ q = 0 ∨ q = 3)))) (fun _ => cct G (pg d kp as un to sc fd tp sh) sp) := by
  refine Cm.start (by decide) (Nat.le_of_ble_eq_true rfl) ?_
  intro p e s m below meth c hf hX hC ls hl
  obtain ⟨hx, hb, hr, hml, hown, hts, hlocks⟩ := hf
  have hl : lv_has ls 2 [(0, .ref (G.ad 23 i0)), (1, .int q)] := hl
  have hown : s.vm.findClass "OwlEars$Late" = some m.cls := hown
  refine lv_iload_n hx hb dX9_isUnder_0 rfl (lv_at hl 1 rfl) ?_
  refine lv_iconst (v := 3) hx hb dX9_isUnder_1 rfl ?_
  refine lv_icmp_eq (tgt := 13) hx hb dX9_isUnder_2 (by decide) (fun c_1 => ?_) (fun c_1 => ?_)
  · refine lv_iconst (v := 1) hx hb dX9_isUnder_13 rfl ?_
    refine lv_goto (tgt := 18) hx hb dX9_isUnder_14 (by decide) ?_
    exact fr_z hx hb hr rfl hlocks hX hC () (congrArg (fun z => some (Value.int z)) (b2i_t (by grind))) rfl dX9_isUnder_18
  · refine lv_aload_n hx hb dX9_isUnder_5 rfl (lv_at hl 0 rfl) ?_
    refine lv_iload_n hx hb dX9_isUnder_6 rfl (lv_at hl 1 rfl) ?_
    refine fc_SU (C := RX9) (fx_at' (ci := 9) (q := (RX9, TX9, 4)) hX rfl).2 (As := [.int q]) (rest := []) hx hb hml hown hts hX hC (m_X8_isUnder_3 i0 hi q) (lw5 q1210 q1883 q375 q1200 q119) q1201 ⟨by decide, by show _ = some 1; decide +kernel⟩ ⟨rfl, rfl⟩ ⟨Nat.le_of_ble_eq_true rfl, Nat.le_of_ble_eq_true rfl⟩ (fx_recv (g := 23) (i := i0) (ci := 9) (q := (RX9, TX9, 4)) hX hC (cin (decide_eq_true hi)) rfl rfl) hl.1 rfl (Nat.le_of_ble_eq_true rfl) ⟨Nat.zero_le _, Nat.zero_le _⟩ dX9_isUnder_7 (fun _ H locs hC => ?_)
    refine W.eq (g2 := F0 m 10 ls [.int (b2i (q = 2 ∨ q = 0 ∨ q = 3))]) rfl ?_
    refine fb_eq (tgt := 17) hx hb dX9_isUnder_10 (by decide) (fun c_3 => ?_) (fun c_3 => ?_)
    · refine lv_iconst (v := 0) hx hb dX9_isUnder_17 rfl ?_
      exact fr_z hx hb hr rfl hlocks hX hC () (congrArg (fun z => some (Value.int z)) (b2i_f (by grind))) rfl dX9_isUnder_18
    · refine lv_iconst (v := 1) hx hb dX9_isUnder_13 rfl ?_
      refine lv_goto (tgt := 18) hx hb dX9_isUnder_14 (by decide) ?_
      exact fr_z hx hb hr rfl hlocks hX hC () (congrArg (fun z => some (Value.int z)) (b2i_t (by grind))) rfl dX9_isUnder_18
set_option maxRecDepth 100000 in
theorem m_X6_isUnder_4 {l : Launch} {G : Gc} {d kp as un to sc fd tp sh : Row} {sp : Nat → Option Nat} (i0 : Nat) (hi : i0 < 8) (q : Int32) : Cm l yX6_isUnder (ws_ yX6_isUnder cX6_isUnder 2 (some .boolean)) ({ frames := 4, cells := 0, slots := 0, locals := 80 }) (cF G) [.ref (G.ad 24 i0), .int q] (cct G (pg d kp as un to sc fd tp sh) sp) (fun _ : Unit => some (.int (b2i (q = 0 ∨ q = 4)))) (fun _ => cct G (pg d kp as un to sc fd tp sh) sp) := by
  refine Cm.start (by decide) (Nat.le_of_ble_eq_true rfl) ?_
  intro p e s m below meth c hf hX hC ls hl
  obtain ⟨hx, hb, hr, hml, hown, hts, hlocks⟩ := hf
  have hl : lv_has ls 2 [(0, .ref (G.ad 24 i0)), (1, .int q)] := hl
  have hown : s.vm.findClass "OwlEars$Strike" = some m.cls := hown
  refine lv_iload_n hx hb dX6_isUnder_0 rfl (lv_at hl 1 rfl) ?_
  refine lv_if_eq (tgt := 12) hx hb dX6_isUnder_1 (by decide) (fun c_1 => ?_) (fun c_1 => ?_)
  · refine lv_iconst (v := 1) hx hb dX6_isUnder_12 rfl ?_
    refine lv_goto (tgt := 17) hx hb dX6_isUnder_13 (by decide) ?_
    exact fr_z hx hb hr rfl hlocks hX hC () (congrArg (fun z => some (Value.int z)) (b2i_t (by grind))) rfl dX6_isUnder_17
  · refine lv_iload_n hx hb dX6_isUnder_4 rfl (lv_at hl 1 rfl) ?_
    refine lv_aload_n hx hb dX6_isUnder_5 rfl (lv_at hl 0 rfl) ?_
    refine fc_O (C := RX10) (owner := "OwlEars$Strike") (x := ⟨"OwlEars$Strike", "kind", "()I"⟩) (As := []) (rest := [.int q]) hx hb hml hown hts hX hC (m_X10_kind_4 i0 hi) (lw6 q1215 q549 q547 q570 q571 q121) q572 q574 (by refine ⟨by decide, by decide, ?_⟩; show _ = some 0; decide +kernel) ⟨rfl, rfl⟩ ⟨Nat.le_of_ble_eq_true rfl, Nat.le_of_ble_eq_true rfl⟩ (fx_recv (g := 24) (i := i0) (ci := 10) (q := (RX10, TX10, 5)) hX hC (cin (decide_eq_true hi)) rfl rfl) hl.1 rfl (Nat.le_of_ble_eq_true rfl) ⟨Nat.zero_le _, Nat.zero_le _⟩ dX6_isUnder_6 (fun _ H locs hC => ?_)
    refine W.eq (g2 := F0 m 9 ls [.int 4, .int q]) rfl ?_
    refine lv_icmp_ne (tgt := 16) hx hb dX6_isUnder_9 (by decide) (fun c_3 => ?_) (fun c_3 => ?_)
    · refine lv_iconst (v := 0) hx hb dX6_isUnder_16 rfl ?_
      exact fr_z hx hb hr rfl hlocks hX hC () (congrArg (fun z => some (Value.int z)) (b2i_f (by grind))) rfl dX6_isUnder_17
    · refine lv_iconst (v := 1) hx hb dX6_isUnder_12 rfl ?_
      refine lv_goto (tgt := 17) hx hb dX6_isUnder_13 (by decide) ?_
      exact fr_z hx hb hr rfl hlocks hX hC () (congrArg (fun z => some (Value.int z)) (b2i_t (by grind))) rfl dX6_isUnder_17
set_option maxRecDepth 100000 in
theorem m_X8_isUnder_4 {l : Launch} {G : Gc} {d kp as un to sc fd tp sh : Row} {sp : Nat → Option Nat} (i0 : Nat) (hi : i0 < 8) (q : Int32) : Cm l yX8_isUnder (ws_ yX8_isUnder cX8_isUnder 2 (some .boolean)) ({ frames := 5, cells := 0, slots := 0, locals := 101 }) (cF G) [.ref (G.ad 24 i0), .int q] (cct G (pg d kp as un to sc fd tp sh) sp) (fun _ : Unit => some (.int (b2i (q = 2 ∨ q = 0 ∨ q = 4)))) (fun _ => cct G (pg d kp as un to sc fd tp sh) sp) := by
  refine Cm.start (by decide) (Nat.le_of_ble_eq_true rfl) ?_
  intro p e s m below meth c hf hX hC ls hl
  obtain ⟨hx, hb, hr, hml, hown, hts, hlocks⟩ := hf
  have hl : lv_has ls 2 [(0, .ref (G.ad 24 i0)), (1, .int q)] := hl
  have hown : s.vm.findClass "OwlEars$Aslant" = some m.cls := hown
  refine lv_iload_n hx hb dX8_isUnder_0 rfl (lv_at hl 1 rfl) ?_
  refine lv_iconst (v := 2) hx hb dX8_isUnder_1 rfl ?_
  refine lv_icmp_eq (tgt := 13) hx hb dX8_isUnder_2 (by decide) (fun c_1 => ?_) (fun c_1 => ?_)
  · refine lv_iconst (v := 1) hx hb dX8_isUnder_13 rfl ?_
    refine lv_goto (tgt := 18) hx hb dX8_isUnder_14 (by decide) ?_
    exact fr_z hx hb hr rfl hlocks hX hC () (congrArg (fun z => some (Value.int z)) (b2i_t (by grind))) rfl dX8_isUnder_18
  · refine lv_aload_n hx hb dX8_isUnder_5 rfl (lv_at hl 0 rfl) ?_
    refine lv_iload_n hx hb dX8_isUnder_6 rfl (lv_at hl 1 rfl) ?_
    refine fc_SU (C := RX10) (fx_at' (ci := 10) (q := (RX10, TX10, 5)) hX rfl).2 (As := [.int q]) (rest := []) hx hb hml hown hts hX hC (m_X6_isUnder_4 i0 hi q) (lw5 q1202 q1198 q362 q1196 q117) q1214 ⟨by decide, by show _ = some 1; decide +kernel⟩ ⟨rfl, rfl⟩ ⟨Nat.le_of_ble_eq_true rfl, Nat.le_of_ble_eq_true rfl⟩ (fx_recv (g := 24) (i := i0) (ci := 10) (q := (RX10, TX10, 5)) hX hC (cin (decide_eq_true hi)) rfl rfl) hl.1 rfl (Nat.le_of_ble_eq_true rfl) ⟨Nat.zero_le _, Nat.zero_le _⟩ dX8_isUnder_7 (fun _ H locs hC => ?_)
    refine W.eq (g2 := F0 m 10 ls [.int (b2i (q = 0 ∨ q = 4))]) rfl ?_
    refine fb_eq (tgt := 17) hx hb dX8_isUnder_10 (by decide) (fun c_3 => ?_) (fun c_3 => ?_)
    · refine lv_iconst (v := 0) hx hb dX8_isUnder_17 rfl ?_
      exact fr_z hx hb hr rfl hlocks hX hC () (congrArg (fun z => some (Value.int z)) (b2i_f (by grind))) rfl dX8_isUnder_18
    · refine lv_iconst (v := 1) hx hb dX8_isUnder_13 rfl ?_
      refine lv_goto (tgt := 18) hx hb dX8_isUnder_14 (by decide) ?_
      exact fr_z hx hb hr rfl hlocks hX hC () (congrArg (fun z => some (Value.int z)) (b2i_t (by grind))) rfl dX8_isUnder_18
set_option maxRecDepth 100000 in
theorem m_X9_isUnder_4 {l : Launch} {G : Gc} {d kp as un to sc fd tp sh : Row} {sp : Nat → Option Nat} (i0 : Nat) (hi : i0 < 8) (q : Int32) : Cm l yX9_isUnder (ws_ yX9_isUnder cX9_isUnder 2 (some .boolean)) ({ frames := 6, cells := 0, slots := 0, locals := 122 }) (cF G) [.ref (G.ad 24 i0), .int q] (cct G (pg d kp as un to sc fd tp sh) sp) (fun _ : Unit => some (.int (b2i (q = 3 ∨ q = 2 ∨ q = 0 ∨ q = 4)))) (fun _ => cct G (pg d kp as un to sc fd tp sh) sp) := by
  refine Cm.start (by decide) (Nat.le_of_ble_eq_true rfl) ?_
  intro p e s m below meth c hf hX hC ls hl
  obtain ⟨hx, hb, hr, hml, hown, hts, hlocks⟩ := hf
  have hl : lv_has ls 2 [(0, .ref (G.ad 24 i0)), (1, .int q)] := hl
  have hown : s.vm.findClass "OwlEars$Late" = some m.cls := hown
  refine lv_iload_n hx hb dX9_isUnder_0 rfl (lv_at hl 1 rfl) ?_
  refine lv_iconst (v := 3) hx hb dX9_isUnder_1 rfl ?_
  refine lv_icmp_eq (tgt := 13) hx hb dX9_isUnder_2 (by decide) (fun c_1 => ?_) (fun c_1 => ?_)
  · refine lv_iconst (v := 1) hx hb dX9_isUnder_13 rfl ?_
    refine lv_goto (tgt := 18) hx hb dX9_isUnder_14 (by decide) ?_
    exact fr_z hx hb hr rfl hlocks hX hC () (congrArg (fun z => some (Value.int z)) (b2i_t (by grind))) rfl dX9_isUnder_18
  · refine lv_aload_n hx hb dX9_isUnder_5 rfl (lv_at hl 0 rfl) ?_
    refine lv_iload_n hx hb dX9_isUnder_6 rfl (lv_at hl 1 rfl) ?_
    refine fc_SU (C := RX10) (fx_at' (ci := 10) (q := (RX10, TX10, 5)) hX rfl).2 (As := [.int q]) (rest := []) hx hb hml hown hts hX hC (m_X8_isUnder_4 i0 hi q) (lw5 q1210 q1883 q375 q1200 q119) q1201 ⟨by decide, by show _ = some 1; decide +kernel⟩ ⟨rfl, rfl⟩ ⟨Nat.le_of_ble_eq_true rfl, Nat.le_of_ble_eq_true rfl⟩ (fx_recv (g := 24) (i := i0) (ci := 10) (q := (RX10, TX10, 5)) hX hC (cin (decide_eq_true hi)) rfl rfl) hl.1 rfl (Nat.le_of_ble_eq_true rfl) ⟨Nat.zero_le _, Nat.zero_le _⟩ dX9_isUnder_7 (fun _ H locs hC => ?_)
    refine W.eq (g2 := F0 m 10 ls [.int (b2i (q = 2 ∨ q = 0 ∨ q = 4))]) rfl ?_
    refine fb_eq (tgt := 17) hx hb dX9_isUnder_10 (by decide) (fun c_3 => ?_) (fun c_3 => ?_)
    · refine lv_iconst (v := 0) hx hb dX9_isUnder_17 rfl ?_
      exact fr_z hx hb hr rfl hlocks hX hC () (congrArg (fun z => some (Value.int z)) (b2i_f (by grind))) rfl dX9_isUnder_18
    · refine lv_iconst (v := 1) hx hb dX9_isUnder_13 rfl ?_
      refine lv_goto (tgt := 18) hx hb dX9_isUnder_14 (by decide) ?_
      exact fr_z hx hb hr rfl hlocks hX hC () (congrArg (fun z => some (Value.int z)) (b2i_t (by grind))) rfl dX9_isUnder_18
set_option maxRecDepth 100000 in
theorem m_X6_isUnder_5 {l : Launch} {G : Gc} {d kp as un to sc fd tp sh : Row} {sp : Nat → Option Nat} (i0 : Nat) (hi : i0 < 8) (q : Int32) : Cm l yX6_isUnder (ws_ yX6_isUnder cX6_isUnder 2 (some .boolean)) ({ frames := 2, cells := 0, slots := 0, locals := 40 }) (cF G) [.ref (G.ad 25 i0), .int q] (cct G (pg d kp as un to sc fd tp sh) sp) (fun _ : Unit => some (.int (b2i (q = 0 ∨ q = 5)))) (fun _ => cct G (pg d kp as un to sc fd tp sh) sp) := by
  refine Cm.start (by decide) (Nat.le_of_ble_eq_true rfl) ?_
  intro p e s m below meth c hf hX hC ls hl
  obtain ⟨hx, hb, hr, hml, hown, hts, hlocks⟩ := hf
  have hl : lv_has ls 2 [(0, .ref (G.ad 25 i0)), (1, .int q)] := hl
  have hown : s.vm.findClass "OwlEars$Strike" = some m.cls := hown
  refine lv_iload_n hx hb dX6_isUnder_0 rfl (lv_at hl 1 rfl) ?_
  refine lv_if_eq (tgt := 12) hx hb dX6_isUnder_1 (by decide) (fun c_1 => ?_) (fun c_1 => ?_)
  · refine lv_iconst (v := 1) hx hb dX6_isUnder_12 rfl ?_
    refine lv_goto (tgt := 17) hx hb dX6_isUnder_13 (by decide) ?_
    exact fr_z hx hb hr rfl hlocks hX hC () (congrArg (fun z => some (Value.int z)) (b2i_t (by grind))) rfl dX6_isUnder_17
  · refine lv_iload_n hx hb dX6_isUnder_4 rfl (lv_at hl 1 rfl) ?_
    refine lv_aload_n hx hb dX6_isUnder_5 rfl (lv_at hl 0 rfl) ?_
    refine fc_O (C := RX11) (owner := "OwlEars$Strike") (x := ⟨"OwlEars$Strike", "kind", "()I"⟩) (As := []) (rest := [.int q]) hx hb hml hown hts hX hC (m_X11_kind_5 i0 hi) (lw6 q1215 q549 q547 q565 q566 q122) q567 q574 (by refine ⟨by decide, by decide, ?_⟩; show _ = some 0; decide +kernel) ⟨rfl, rfl⟩ ⟨Nat.le_of_ble_eq_true rfl, Nat.le_of_ble_eq_true rfl⟩ (fx_recv (g := 25) (i := i0) (ci := 11) (q := (RX11, TX11, 3)) hX hC (cin (decide_eq_true hi)) rfl rfl) hl.1 rfl (Nat.le_of_ble_eq_true rfl) ⟨Nat.zero_le _, Nat.zero_le _⟩ dX6_isUnder_6 (fun _ H locs hC => ?_)
    refine W.eq (g2 := F0 m 9 ls [.int 5, .int q]) rfl ?_
    refine lv_icmp_ne (tgt := 16) hx hb dX6_isUnder_9 (by decide) (fun c_3 => ?_) (fun c_3 => ?_)
    · refine lv_iconst (v := 0) hx hb dX6_isUnder_16 rfl ?_
      exact fr_z hx hb hr rfl hlocks hX hC () (congrArg (fun z => some (Value.int z)) (b2i_f (by grind))) rfl dX6_isUnder_17
    · refine lv_iconst (v := 1) hx hb dX6_isUnder_12 rfl ?_
      refine lv_goto (tgt := 17) hx hb dX6_isUnder_13 (by decide) ?_
      exact fr_z hx hb hr rfl hlocks hX hC () (congrArg (fun z => some (Value.int z)) (b2i_t (by grind))) rfl dX6_isUnder_17
set_option maxRecDepth 100000 in
theorem m_X6_isUnder_6 {l : Launch} {G : Gc} {d kp as un to sc fd tp sh : Row} {sp : Nat → Option Nat} (i0 : Nat) (hi : i0 < 8) (q : Int32) : Cm l yX6_isUnder (ws_ yX6_isUnder cX6_isUnder 2 (some .boolean)) ({ frames := 3, cells := 0, slots := 0, locals := 60 }) (cF G) [.ref (G.ad 26 i0), .int q] (cct G (pg d kp as un to sc fd tp sh) sp) (fun _ : Unit => some (.int (b2i (q = 0 ∨ q = 6)))) (fun _ => cct G (pg d kp as un to sc fd tp sh) sp) := by
  refine Cm.start (by decide) (Nat.le_of_ble_eq_true rfl) ?_
  intro p e s m below meth c hf hX hC ls hl
  obtain ⟨hx, hb, hr, hml, hown, hts, hlocks⟩ := hf
  have hl : lv_has ls 2 [(0, .ref (G.ad 26 i0)), (1, .int q)] := hl
  have hown : s.vm.findClass "OwlEars$Strike" = some m.cls := hown
  refine lv_iload_n hx hb dX6_isUnder_0 rfl (lv_at hl 1 rfl) ?_
  refine lv_if_eq (tgt := 12) hx hb dX6_isUnder_1 (by decide) (fun c_1 => ?_) (fun c_1 => ?_)
  · refine lv_iconst (v := 1) hx hb dX6_isUnder_12 rfl ?_
    refine lv_goto (tgt := 17) hx hb dX6_isUnder_13 (by decide) ?_
    exact fr_z hx hb hr rfl hlocks hX hC () (congrArg (fun z => some (Value.int z)) (b2i_t (by grind))) rfl dX6_isUnder_17
  · refine lv_iload_n hx hb dX6_isUnder_4 rfl (lv_at hl 1 rfl) ?_
    refine lv_aload_n hx hb dX6_isUnder_5 rfl (lv_at hl 0 rfl) ?_
    refine fc_O (C := RX12) (owner := "OwlEars$Strike") (x := ⟨"OwlEars$Strike", "kind", "()I"⟩) (As := []) (rest := [.int q]) hx hb hml hown hts hX hC (m_X12_kind_6 i0 hi) (lw6 q1215 q549 q547 q554 q555 q123) q556 q574 (by refine ⟨by decide, by decide, ?_⟩; show _ = some 0; decide +kernel) ⟨rfl, rfl⟩ ⟨Nat.le_of_ble_eq_true rfl, Nat.le_of_ble_eq_true rfl⟩ (fx_recv (g := 26) (i := i0) (ci := 12) (q := (RX12, TX12, 4)) hX hC (cin (decide_eq_true hi)) rfl rfl) hl.1 rfl (Nat.le_of_ble_eq_true rfl) ⟨Nat.zero_le _, Nat.zero_le _⟩ dX6_isUnder_6 (fun _ H locs hC => ?_)
    refine W.eq (g2 := F0 m 9 ls [.int 6, .int q]) rfl ?_
    refine lv_icmp_ne (tgt := 16) hx hb dX6_isUnder_9 (by decide) (fun c_3 => ?_) (fun c_3 => ?_)
    · refine lv_iconst (v := 0) hx hb dX6_isUnder_16 rfl ?_
      exact fr_z hx hb hr rfl hlocks hX hC () (congrArg (fun z => some (Value.int z)) (b2i_f (by grind))) rfl dX6_isUnder_17
    · refine lv_iconst (v := 1) hx hb dX6_isUnder_12 rfl ?_
      refine lv_goto (tgt := 17) hx hb dX6_isUnder_13 (by decide) ?_
      exact fr_z hx hb hr rfl hlocks hX hC () (congrArg (fun z => some (Value.int z)) (b2i_t (by grind))) rfl dX6_isUnder_17
set_option maxRecDepth 100000 in
theorem m_X7_isUnder_6 {l : Launch} {G : Gc} {d kp as un to sc fd tp sh : Row} {sp : Nat → Option Nat} (i0 : Nat) (hi : i0 < 8) (q : Int32) : Cm l yX7_isUnder (ws_ yX7_isUnder cX7_isUnder 2 (some .boolean)) ({ frames := 4, cells := 0, slots := 0, locals := 81 }) (cF G) [.ref (G.ad 26 i0), .int q] (cct G (pg d kp as un to sc fd tp sh) sp) (fun _ : Unit => some (.int (b2i (q = 1 ∨ q = 0 ∨ q = 6)))) (fun _ => cct G (pg d kp as un to sc fd tp sh) sp) := by
  refine Cm.start (by decide) (Nat.le_of_ble_eq_true rfl) ?_
  intro p e s m below meth c hf hX hC ls hl
  obtain ⟨hx, hb, hr, hml, hown, hts, hlocks⟩ := hf
  have hl : lv_has ls 2 [(0, .ref (G.ad 26 i0)), (1, .int q)] := hl
  have hown : s.vm.findClass "OwlEars$Sure" = some m.cls := hown
  refine lv_iload_n hx hb dX7_isUnder_0 rfl (lv_at hl 1 rfl) ?_
  refine lv_iconst (v := 1) hx hb dX7_isUnder_1 rfl ?_
  refine lv_icmp_eq (tgt := 13) hx hb dX7_isUnder_2 (by decide) (fun c_1 => ?_) (fun c_1 => ?_)
  · refine lv_iconst (v := 1) hx hb dX7_isUnder_13 rfl ?_
    refine lv_goto (tgt := 18) hx hb dX7_isUnder_14 (by decide) ?_
    exact fr_z hx hb hr rfl hlocks hX hC () (congrArg (fun z => some (Value.int z)) (b2i_t (by grind))) rfl dX7_isUnder_18
  · refine lv_aload_n hx hb dX7_isUnder_5 rfl (lv_at hl 0 rfl) ?_
    refine lv_iload_n hx hb dX7_isUnder_6 rfl (lv_at hl 1 rfl) ?_
    refine fc_SU (C := RX12) (fx_at' (ci := 12) (q := (RX12, TX12, 4)) hX rfl).2 (As := [.int q]) (rest := []) hx hb hml hown hts hX hC (m_X6_isUnder_6 i0 hi q) (lw5 q1206 q1198 q350 q1196 q117) q1214 ⟨by decide, by show _ = some 1; decide +kernel⟩ ⟨rfl, rfl⟩ ⟨Nat.le_of_ble_eq_true rfl, Nat.le_of_ble_eq_true rfl⟩ (fx_recv (g := 26) (i := i0) (ci := 12) (q := (RX12, TX12, 4)) hX hC (cin (decide_eq_true hi)) rfl rfl) hl.1 rfl (Nat.le_of_ble_eq_true rfl) ⟨Nat.zero_le _, Nat.zero_le _⟩ dX7_isUnder_7 (fun _ H locs hC => ?_)
    refine W.eq (g2 := F0 m 10 ls [.int (b2i (q = 0 ∨ q = 6))]) rfl ?_
    refine fb_eq (tgt := 17) hx hb dX7_isUnder_10 (by decide) (fun c_3 => ?_) (fun c_3 => ?_)
    · refine lv_iconst (v := 0) hx hb dX7_isUnder_17 rfl ?_
      exact fr_z hx hb hr rfl hlocks hX hC () (congrArg (fun z => some (Value.int z)) (b2i_f (by grind))) rfl dX7_isUnder_18
    · refine lv_iconst (v := 1) hx hb dX7_isUnder_13 rfl ?_
      refine lv_goto (tgt := 18) hx hb dX7_isUnder_14 (by decide) ?_
      exact fr_z hx hb hr rfl hlocks hX hC () (congrArg (fun z => some (Value.int z)) (b2i_t (by grind))) rfl dX7_isUnder_18
