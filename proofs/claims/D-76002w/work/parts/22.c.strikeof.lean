theorem hdV_X0_strikeOf : yX0_strikeOf.cls = RX0 ∧ yX0_strikeOf.cls ≠ "java/lang/invoke/MethodHandle" ∧ yX0_strikeOf.cls ≠ "java/lang/invoke/VarHandle" ∧ (parseMethodDescriptor yX0_strikeOf.desc).map (fun d => d.parameters.length) = some 1 := by decide +kernel
theorem kind7' {x : Int32} (h : vp_in x 7) : x = 0 ∨ x = 1 ∨ x = 2 ∨ x = 3 ∨ x = 4 ∨ x = 5 ∨ x = 6 := by
  obtain ⟨j, hj, rfl⟩ := vp_in_of h (by decide)
  have key : ∀ j, j < 7 → nI j = 0 ∨ nI j = 1 ∨ nI j = 2 ∨ nI j = 3 ∨ nI j = 4 ∨ nI j = 5 ∨ nI j = 6 := by decide +kernel
  exact key j hj
theorem sk_ix {x k : Int32} {n : Nat} (hx : x = nI n) (hn : n < 7) (hk : vp_in k 8) : ix (8 * x + k) / 8 = n ∧ ix (8 * x + k) % 8 = ix k ∧ vp_in (8 * x + k) 56 := by
  subst hx
  obtain ⟨a, ha, rfl⟩ := vp_in_of hk (by decide)
  have key : ∀ n, n < 7 → ∀ a, a < 8 → ix (8 * nI n + nI a) / 8 = n ∧ ix (8 * nI n + nI a) % 8 = ix (nI a) ∧ (decide (0 ≤ (8 * nI n + nI a).toInt) && decide ((8 * nI n + nI a).toInt < 56)) = true := by decide +kernel
  obtain ⟨h1, h2, h3⟩ := key n hn a ha
  exact ⟨h1, h2, vin_b h3⟩
theorem sk_ad {G : Gc} {x k : Int32} {n : Nat} (hx : x = nI n) (hn : n < 7) (hk : vp_in k 8) : va_rf (some (G.ad (30 + ix (8 * x + k) / 8) (ix (8 * x + k) % 8))) = .ref (G.ad (30 + n) (ix k)) := by
  obtain ⟨h1, h2, -⟩ := sk_ix hx hn hk
  rw [h1, h2]
  rfl
set_option maxRecDepth 100000 in
theorem m_X0_strikeOf_0 {l : Launch} {G : Gc} {d kp as un to sc fd tp sh : Row} {sp : Nat → Option Nat} (k : Int32) (hk : vp_in k 8) (qk : d (92 + 4 * ix k) = 0) : Cm l yX0_strikeOf (ws_ yX0_strikeOf cX0_strikeOf 2 (some (.object "OwlEars$Strike"))) ({ frames := 0, cells := 0, slots := 0, locals := 0 }) (cF G) [.ref (G.ad 5 0), .int k] (cct G (pg d kp as un to sc fd tp sh) sp) (fun _ : Unit => some (.ref (G.ad 20 (ix k)))) (fun _ => cct G (pg d kp as un to sc fd tp sh) sp) := by
  refine Cm.start (by decide) (Nat.le_of_ble_eq_true rfl) ?_
  intro p e s m below meth c hf hX hC ls hl
  obtain ⟨hx, hb, hr, hml, hown, hts, hlocks⟩ := hf
  have hl : lv_has ls 2 [(0, .ref (G.ad 5 0)), (1, .int k)] := hl
  have hown : s.vm.findClass "OwlEars" = some m.cls := hown
  refine lv_aload_n hx hb dX0_strikeOf_0 rfl (lv_at hl 0 rfl) ?_
  refine fg_get (C := RX0) (T := TX0) (N := 13) (ci := 1) (g := 5) (i := 0) (v := .ref (G.ad 5 5)) hx hb hown hts hX hC in_X0 rfl (cin rfl) rfl 8 (by decide) q430 (fun _ h => h) rfl dX0_strikeOf_1 ?_
  refine lv_bipush (v := 8) hx hb dX0_strikeOf_4 rfl ?_
  refine lv_aload_n hx hb dX0_strikeOf_6 rfl (lv_at hl 0 rfl) ?_
  refine fg_get (C := RX0) (T := TX0) (N := 13) (ci := 1) (g := 5) (i := 0) (v := .ref (G.ad 0 0)) hx hb hown hts hX hC in_X0 rfl (cin rfl) rfl 3 (by decide) q425 (fun _ h => h) rfl dX0_strikeOf_7 ?_
  refine fg_getN (C := RX4) (T := TX4) (N := 9) (ci := 0) (g := 0) (i := 0) (v := .ref (G.ad 0 5)) hx hb hown hts hX hC in_X4 rfl (cin rfl) rfl 5 (by decide) (hX.2.2.1.F q257) (fun _ h => h) rfl dX0_strikeOf_10 ?_
  refine lv_iconst (v := 0) hx hb dX0_strikeOf_13 rfl ?_
  refine fg_ald (g := 0) (i := 5) (t0 := 1) (ty := .array .int) (v := .ref (G.ad 0 6)) hx hb hX hC (cin rfl) rfl rfl rfl (vin_b rfl) rfl dX0_strikeOf_14 ?_
  refine lv_iload_n hx hb dX0_strikeOf_15 rfl (lv_at hl 1 rfl) ?_
  refine fg_iald (g := 0) (i := 6) (t0 := 0) (v := d (92 + 4 * (ix k))) hx hb hX hC (cin rfl) rfl rfl hk rfl dX0_strikeOf_16 ?_
  refine lv_imul hx hb dX0_strikeOf_17 ?_
  refine lv_iload_n hx hb dX0_strikeOf_18 rfl (lv_at hl 1 rfl) ?_
  refine lv_iadd hx hb dX0_strikeOf_19 ?_
  refine fg_ald (g := 5) (i := 5) (t0 := 3) (ty := .object "OwlEars$Slot") (v := .ref (G.ad 30 (ix k))) hx hb hX hC (cin rfl) rfl rfl rfl (sk_ix (n := 0) qk (by decide) hk).2.2 (sk_ad (n := 0) qk (by decide) hk) dX0_strikeOf_20 ?_
  refine fg_getN (C := RX5) (T := TX5) (N := 1) (ci := 5) (g := 30) (i := (ix k)) (v := .ref (G.ad 20 (ix k))) hx hb hown hts hX hC in_X5 rfl (cin (decide_eq_true (vin_lt hk))) rfl 0 (by decide) (hX.2.2.1.F q323) (fun _ h => h) rfl dX0_strikeOf_21 ?_
  refine va_castE hx hb hown (hts _ q415) (fx_recv (g := 20) (i := (ix k)) (ci := 6) (q := (RX6, TX6, 2)) hX hC (cin (decide_eq_true (vin_lt hk))) rfl rfl) dX0_strikeOf_24 ?_
  exact fr_a hx hb hr (Or.inl ⟨_, rfl⟩) (Or.inr ⟨_, rfl⟩) hlocks hX hC () rfl rfl dX0_strikeOf_27
set_option maxRecDepth 100000 in
theorem m_X0_strikeOf_1 {l : Launch} {G : Gc} {d kp as un to sc fd tp sh : Row} {sp : Nat → Option Nat} (k : Int32) (hk : vp_in k 8) (qk : d (92 + 4 * ix k) = 1) : Cm l yX0_strikeOf (ws_ yX0_strikeOf cX0_strikeOf 2 (some (.object "OwlEars$Strike"))) ({ frames := 0, cells := 0, slots := 0, locals := 0 }) (cF G) [.ref (G.ad 5 0), .int k] (cct G (pg d kp as un to sc fd tp sh) sp) (fun _ : Unit => some (.ref (G.ad 21 (ix k)))) (fun _ => cct G (pg d kp as un to sc fd tp sh) sp) := by
  refine Cm.start (by decide) (Nat.le_of_ble_eq_true rfl) ?_
  intro p e s m below meth c hf hX hC ls hl
  obtain ⟨hx, hb, hr, hml, hown, hts, hlocks⟩ := hf
  have hl : lv_has ls 2 [(0, .ref (G.ad 5 0)), (1, .int k)] := hl
  have hown : s.vm.findClass "OwlEars" = some m.cls := hown
  refine lv_aload_n hx hb dX0_strikeOf_0 rfl (lv_at hl 0 rfl) ?_
  refine fg_get (C := RX0) (T := TX0) (N := 13) (ci := 1) (g := 5) (i := 0) (v := .ref (G.ad 5 5)) hx hb hown hts hX hC in_X0 rfl (cin rfl) rfl 8 (by decide) q430 (fun _ h => h) rfl dX0_strikeOf_1 ?_
  refine lv_bipush (v := 8) hx hb dX0_strikeOf_4 rfl ?_
  refine lv_aload_n hx hb dX0_strikeOf_6 rfl (lv_at hl 0 rfl) ?_
  refine fg_get (C := RX0) (T := TX0) (N := 13) (ci := 1) (g := 5) (i := 0) (v := .ref (G.ad 0 0)) hx hb hown hts hX hC in_X0 rfl (cin rfl) rfl 3 (by decide) q425 (fun _ h => h) rfl dX0_strikeOf_7 ?_
  refine fg_getN (C := RX4) (T := TX4) (N := 9) (ci := 0) (g := 0) (i := 0) (v := .ref (G.ad 0 5)) hx hb hown hts hX hC in_X4 rfl (cin rfl) rfl 5 (by decide) (hX.2.2.1.F q257) (fun _ h => h) rfl dX0_strikeOf_10 ?_
  refine lv_iconst (v := 0) hx hb dX0_strikeOf_13 rfl ?_
  refine fg_ald (g := 0) (i := 5) (t0 := 1) (ty := .array .int) (v := .ref (G.ad 0 6)) hx hb hX hC (cin rfl) rfl rfl rfl (vin_b rfl) rfl dX0_strikeOf_14 ?_
  refine lv_iload_n hx hb dX0_strikeOf_15 rfl (lv_at hl 1 rfl) ?_
  refine fg_iald (g := 0) (i := 6) (t0 := 0) (v := d (92 + 4 * (ix k))) hx hb hX hC (cin rfl) rfl rfl hk rfl dX0_strikeOf_16 ?_
  refine lv_imul hx hb dX0_strikeOf_17 ?_
  refine lv_iload_n hx hb dX0_strikeOf_18 rfl (lv_at hl 1 rfl) ?_
  refine lv_iadd hx hb dX0_strikeOf_19 ?_
  refine fg_ald (g := 5) (i := 5) (t0 := 3) (ty := .object "OwlEars$Slot") (v := .ref (G.ad 31 (ix k))) hx hb hX hC (cin rfl) rfl rfl rfl (sk_ix (n := 1) qk (by decide) hk).2.2 (sk_ad (n := 1) qk (by decide) hk) dX0_strikeOf_20 ?_
  refine fg_getN (C := RX5) (T := TX5) (N := 1) (ci := 5) (g := 31) (i := (ix k)) (v := .ref (G.ad 21 (ix k))) hx hb hown hts hX hC in_X5 rfl (cin (decide_eq_true (vin_lt hk))) rfl 0 (by decide) (hX.2.2.1.F q323) (fun _ h => h) rfl dX0_strikeOf_21 ?_
  refine va_castY (C := RX7) hx hb hown (hts _ q415) (hX.2.2.1.C q1888) (fx_recv (g := 21) (i := (ix k)) (ci := 7) (q := (RX7, TX7, 3)) hX hC (cin (decide_eq_true (vin_lt hk))) rfl rfl) dX0_strikeOf_24 ?_
  exact fr_a hx hb hr (Or.inl ⟨_, rfl⟩) (Or.inr ⟨_, rfl⟩) hlocks hX hC () rfl rfl dX0_strikeOf_27
set_option maxRecDepth 100000 in
theorem m_X0_strikeOf_2 {l : Launch} {G : Gc} {d kp as un to sc fd tp sh : Row} {sp : Nat → Option Nat} (k : Int32) (hk : vp_in k 8) (qk : d (92 + 4 * ix k) = 2) : Cm l yX0_strikeOf (ws_ yX0_strikeOf cX0_strikeOf 2 (some (.object "OwlEars$Strike"))) ({ frames := 0, cells := 0, slots := 0, locals := 0 }) (cF G) [.ref (G.ad 5 0), .int k] (cct G (pg d kp as un to sc fd tp sh) sp) (fun _ : Unit => some (.ref (G.ad 22 (ix k)))) (fun _ => cct G (pg d kp as un to sc fd tp sh) sp) := by
  refine Cm.start (by decide) (Nat.le_of_ble_eq_true rfl) ?_
  intro p e s m below meth c hf hX hC ls hl
  obtain ⟨hx, hb, hr, hml, hown, hts, hlocks⟩ := hf
  have hl : lv_has ls 2 [(0, .ref (G.ad 5 0)), (1, .int k)] := hl
  have hown : s.vm.findClass "OwlEars" = some m.cls := hown
  refine lv_aload_n hx hb dX0_strikeOf_0 rfl (lv_at hl 0 rfl) ?_
  refine fg_get (C := RX0) (T := TX0) (N := 13) (ci := 1) (g := 5) (i := 0) (v := .ref (G.ad 5 5)) hx hb hown hts hX hC in_X0 rfl (cin rfl) rfl 8 (by decide) q430 (fun _ h => h) rfl dX0_strikeOf_1 ?_
  refine lv_bipush (v := 8) hx hb dX0_strikeOf_4 rfl ?_
  refine lv_aload_n hx hb dX0_strikeOf_6 rfl (lv_at hl 0 rfl) ?_
  refine fg_get (C := RX0) (T := TX0) (N := 13) (ci := 1) (g := 5) (i := 0) (v := .ref (G.ad 0 0)) hx hb hown hts hX hC in_X0 rfl (cin rfl) rfl 3 (by decide) q425 (fun _ h => h) rfl dX0_strikeOf_7 ?_
  refine fg_getN (C := RX4) (T := TX4) (N := 9) (ci := 0) (g := 0) (i := 0) (v := .ref (G.ad 0 5)) hx hb hown hts hX hC in_X4 rfl (cin rfl) rfl 5 (by decide) (hX.2.2.1.F q257) (fun _ h => h) rfl dX0_strikeOf_10 ?_
  refine lv_iconst (v := 0) hx hb dX0_strikeOf_13 rfl ?_
  refine fg_ald (g := 0) (i := 5) (t0 := 1) (ty := .array .int) (v := .ref (G.ad 0 6)) hx hb hX hC (cin rfl) rfl rfl rfl (vin_b rfl) rfl dX0_strikeOf_14 ?_
  refine lv_iload_n hx hb dX0_strikeOf_15 rfl (lv_at hl 1 rfl) ?_
  refine fg_iald (g := 0) (i := 6) (t0 := 0) (v := d (92 + 4 * (ix k))) hx hb hX hC (cin rfl) rfl rfl hk rfl dX0_strikeOf_16 ?_
  refine lv_imul hx hb dX0_strikeOf_17 ?_
  refine lv_iload_n hx hb dX0_strikeOf_18 rfl (lv_at hl 1 rfl) ?_
  refine lv_iadd hx hb dX0_strikeOf_19 ?_
  refine fg_ald (g := 5) (i := 5) (t0 := 3) (ty := .object "OwlEars$Slot") (v := .ref (G.ad 32 (ix k))) hx hb hX hC (cin rfl) rfl rfl rfl (sk_ix (n := 2) qk (by decide) hk).2.2 (sk_ad (n := 2) qk (by decide) hk) dX0_strikeOf_20 ?_
  refine fg_getN (C := RX5) (T := TX5) (N := 1) (ci := 5) (g := 32) (i := (ix k)) (v := .ref (G.ad 22 (ix k))) hx hb hown hts hX hC in_X5 rfl (cin (decide_eq_true (vin_lt hk))) rfl 0 (by decide) (hX.2.2.1.F q323) (fun _ h => h) rfl dX0_strikeOf_21 ?_
  refine va_castY (C := RX8) hx hb hown (hts _ q415) (hX.2.2.1.C q1884) (fx_recv (g := 22) (i := (ix k)) (ci := 8) (q := (RX8, TX8, 3)) hX hC (cin (decide_eq_true (vin_lt hk))) rfl rfl) dX0_strikeOf_24 ?_
  exact fr_a hx hb hr (Or.inl ⟨_, rfl⟩) (Or.inr ⟨_, rfl⟩) hlocks hX hC () rfl rfl dX0_strikeOf_27
set_option maxRecDepth 100000 in
theorem m_X0_strikeOf_3 {l : Launch} {G : Gc} {d kp as un to sc fd tp sh : Row} {sp : Nat → Option Nat} (k : Int32) (hk : vp_in k 8) (qk : d (92 + 4 * ix k) = 3) : Cm l yX0_strikeOf (ws_ yX0_strikeOf cX0_strikeOf 2 (some (.object "OwlEars$Strike"))) ({ frames := 0, cells := 0, slots := 0, locals := 0 }) (cF G) [.ref (G.ad 5 0), .int k] (cct G (pg d kp as un to sc fd tp sh) sp) (fun _ : Unit => some (.ref (G.ad 23 (ix k)))) (fun _ => cct G (pg d kp as un to sc fd tp sh) sp) := by
  refine Cm.start (by decide) (Nat.le_of_ble_eq_true rfl) ?_
  intro p e s m below meth c hf hX hC ls hl
  obtain ⟨hx, hb, hr, hml, hown, hts, hlocks⟩ := hf
  have hl : lv_has ls 2 [(0, .ref (G.ad 5 0)), (1, .int k)] := hl
  have hown : s.vm.findClass "OwlEars" = some m.cls := hown
  refine lv_aload_n hx hb dX0_strikeOf_0 rfl (lv_at hl 0 rfl) ?_
  refine fg_get (C := RX0) (T := TX0) (N := 13) (ci := 1) (g := 5) (i := 0) (v := .ref (G.ad 5 5)) hx hb hown hts hX hC in_X0 rfl (cin rfl) rfl 8 (by decide) q430 (fun _ h => h) rfl dX0_strikeOf_1 ?_
  refine lv_bipush (v := 8) hx hb dX0_strikeOf_4 rfl ?_
  refine lv_aload_n hx hb dX0_strikeOf_6 rfl (lv_at hl 0 rfl) ?_
  refine fg_get (C := RX0) (T := TX0) (N := 13) (ci := 1) (g := 5) (i := 0) (v := .ref (G.ad 0 0)) hx hb hown hts hX hC in_X0 rfl (cin rfl) rfl 3 (by decide) q425 (fun _ h => h) rfl dX0_strikeOf_7 ?_
  refine fg_getN (C := RX4) (T := TX4) (N := 9) (ci := 0) (g := 0) (i := 0) (v := .ref (G.ad 0 5)) hx hb hown hts hX hC in_X4 rfl (cin rfl) rfl 5 (by decide) (hX.2.2.1.F q257) (fun _ h => h) rfl dX0_strikeOf_10 ?_
  refine lv_iconst (v := 0) hx hb dX0_strikeOf_13 rfl ?_
  refine fg_ald (g := 0) (i := 5) (t0 := 1) (ty := .array .int) (v := .ref (G.ad 0 6)) hx hb hX hC (cin rfl) rfl rfl rfl (vin_b rfl) rfl dX0_strikeOf_14 ?_
  refine lv_iload_n hx hb dX0_strikeOf_15 rfl (lv_at hl 1 rfl) ?_
  refine fg_iald (g := 0) (i := 6) (t0 := 0) (v := d (92 + 4 * (ix k))) hx hb hX hC (cin rfl) rfl rfl hk rfl dX0_strikeOf_16 ?_
  refine lv_imul hx hb dX0_strikeOf_17 ?_
  refine lv_iload_n hx hb dX0_strikeOf_18 rfl (lv_at hl 1 rfl) ?_
  refine lv_iadd hx hb dX0_strikeOf_19 ?_
  refine fg_ald (g := 5) (i := 5) (t0 := 3) (ty := .object "OwlEars$Slot") (v := .ref (G.ad 33 (ix k))) hx hb hX hC (cin rfl) rfl rfl rfl (sk_ix (n := 3) qk (by decide) hk).2.2 (sk_ad (n := 3) qk (by decide) hk) dX0_strikeOf_20 ?_
  refine fg_getN (C := RX5) (T := TX5) (N := 1) (ci := 5) (g := 33) (i := (ix k)) (v := .ref (G.ad 23 (ix k))) hx hb hown hts hX hC in_X5 rfl (cin (decide_eq_true (vin_lt hk))) rfl 0 (by decide) (hX.2.2.1.F q323) (fun _ h => h) rfl dX0_strikeOf_21 ?_
  refine va_castY (C := RX9) hx hb hown (hts _ q415) (hX.2.2.1.C q1886) (fx_recv (g := 23) (i := (ix k)) (ci := 9) (q := (RX9, TX9, 4)) hX hC (cin (decide_eq_true (vin_lt hk))) rfl rfl) dX0_strikeOf_24 ?_
  exact fr_a hx hb hr (Or.inl ⟨_, rfl⟩) (Or.inr ⟨_, rfl⟩) hlocks hX hC () rfl rfl dX0_strikeOf_27
set_option maxRecDepth 100000 in
theorem m_X0_strikeOf_4 {l : Launch} {G : Gc} {d kp as un to sc fd tp sh : Row} {sp : Nat → Option Nat} (k : Int32) (hk : vp_in k 8) (qk : d (92 + 4 * ix k) = 4) : Cm l yX0_strikeOf (ws_ yX0_strikeOf cX0_strikeOf 2 (some (.object "OwlEars$Strike"))) ({ frames := 0, cells := 0, slots := 0, locals := 0 }) (cF G) [.ref (G.ad 5 0), .int k] (cct G (pg d kp as un to sc fd tp sh) sp) (fun _ : Unit => some (.ref (G.ad 24 (ix k)))) (fun _ => cct G (pg d kp as un to sc fd tp sh) sp) := by
  refine Cm.start (by decide) (Nat.le_of_ble_eq_true rfl) ?_
  intro p e s m below meth c hf hX hC ls hl
  obtain ⟨hx, hb, hr, hml, hown, hts, hlocks⟩ := hf
  have hl : lv_has ls 2 [(0, .ref (G.ad 5 0)), (1, .int k)] := hl
  have hown : s.vm.findClass "OwlEars" = some m.cls := hown
  refine lv_aload_n hx hb dX0_strikeOf_0 rfl (lv_at hl 0 rfl) ?_
  refine fg_get (C := RX0) (T := TX0) (N := 13) (ci := 1) (g := 5) (i := 0) (v := .ref (G.ad 5 5)) hx hb hown hts hX hC in_X0 rfl (cin rfl) rfl 8 (by decide) q430 (fun _ h => h) rfl dX0_strikeOf_1 ?_
  refine lv_bipush (v := 8) hx hb dX0_strikeOf_4 rfl ?_
  refine lv_aload_n hx hb dX0_strikeOf_6 rfl (lv_at hl 0 rfl) ?_
  refine fg_get (C := RX0) (T := TX0) (N := 13) (ci := 1) (g := 5) (i := 0) (v := .ref (G.ad 0 0)) hx hb hown hts hX hC in_X0 rfl (cin rfl) rfl 3 (by decide) q425 (fun _ h => h) rfl dX0_strikeOf_7 ?_
  refine fg_getN (C := RX4) (T := TX4) (N := 9) (ci := 0) (g := 0) (i := 0) (v := .ref (G.ad 0 5)) hx hb hown hts hX hC in_X4 rfl (cin rfl) rfl 5 (by decide) (hX.2.2.1.F q257) (fun _ h => h) rfl dX0_strikeOf_10 ?_
  refine lv_iconst (v := 0) hx hb dX0_strikeOf_13 rfl ?_
  refine fg_ald (g := 0) (i := 5) (t0 := 1) (ty := .array .int) (v := .ref (G.ad 0 6)) hx hb hX hC (cin rfl) rfl rfl rfl (vin_b rfl) rfl dX0_strikeOf_14 ?_
  refine lv_iload_n hx hb dX0_strikeOf_15 rfl (lv_at hl 1 rfl) ?_
  refine fg_iald (g := 0) (i := 6) (t0 := 0) (v := d (92 + 4 * (ix k))) hx hb hX hC (cin rfl) rfl rfl hk rfl dX0_strikeOf_16 ?_
  refine lv_imul hx hb dX0_strikeOf_17 ?_
  refine lv_iload_n hx hb dX0_strikeOf_18 rfl (lv_at hl 1 rfl) ?_
  refine lv_iadd hx hb dX0_strikeOf_19 ?_
  refine fg_ald (g := 5) (i := 5) (t0 := 3) (ty := .object "OwlEars$Slot") (v := .ref (G.ad 34 (ix k))) hx hb hX hC (cin rfl) rfl rfl rfl (sk_ix (n := 4) qk (by decide) hk).2.2 (sk_ad (n := 4) qk (by decide) hk) dX0_strikeOf_20 ?_
  refine fg_getN (C := RX5) (T := TX5) (N := 1) (ci := 5) (g := 34) (i := (ix k)) (v := .ref (G.ad 24 (ix k))) hx hb hown hts hX hC in_X5 rfl (cin (decide_eq_true (vin_lt hk))) rfl 0 (by decide) (hX.2.2.1.F q323) (fun _ h => h) rfl dX0_strikeOf_21 ?_
  refine va_castY (C := RX10) hx hb hown (hts _ q415) (hX.2.2.1.C q1889) (fx_recv (g := 24) (i := (ix k)) (ci := 10) (q := (RX10, TX10, 5)) hX hC (cin (decide_eq_true (vin_lt hk))) rfl rfl) dX0_strikeOf_24 ?_
  exact fr_a hx hb hr (Or.inl ⟨_, rfl⟩) (Or.inr ⟨_, rfl⟩) hlocks hX hC () rfl rfl dX0_strikeOf_27
set_option maxRecDepth 100000 in
theorem m_X0_strikeOf_5 {l : Launch} {G : Gc} {d kp as un to sc fd tp sh : Row} {sp : Nat → Option Nat} (k : Int32) (hk : vp_in k 8) (qk : d (92 + 4 * ix k) = 5) : Cm l yX0_strikeOf (ws_ yX0_strikeOf cX0_strikeOf 2 (some (.object "OwlEars$Strike"))) ({ frames := 0, cells := 0, slots := 0, locals := 0 }) (cF G) [.ref (G.ad 5 0), .int k] (cct G (pg d kp as un to sc fd tp sh) sp) (fun _ : Unit => some (.ref (G.ad 25 (ix k)))) (fun _ => cct G (pg d kp as un to sc fd tp sh) sp) := by
  refine Cm.start (by decide) (Nat.le_of_ble_eq_true rfl) ?_
  intro p e s m below meth c hf hX hC ls hl
  obtain ⟨hx, hb, hr, hml, hown, hts, hlocks⟩ := hf
  have hl : lv_has ls 2 [(0, .ref (G.ad 5 0)), (1, .int k)] := hl
  have hown : s.vm.findClass "OwlEars" = some m.cls := hown
  refine lv_aload_n hx hb dX0_strikeOf_0 rfl (lv_at hl 0 rfl) ?_
  refine fg_get (C := RX0) (T := TX0) (N := 13) (ci := 1) (g := 5) (i := 0) (v := .ref (G.ad 5 5)) hx hb hown hts hX hC in_X0 rfl (cin rfl) rfl 8 (by decide) q430 (fun _ h => h) rfl dX0_strikeOf_1 ?_
  refine lv_bipush (v := 8) hx hb dX0_strikeOf_4 rfl ?_
  refine lv_aload_n hx hb dX0_strikeOf_6 rfl (lv_at hl 0 rfl) ?_
  refine fg_get (C := RX0) (T := TX0) (N := 13) (ci := 1) (g := 5) (i := 0) (v := .ref (G.ad 0 0)) hx hb hown hts hX hC in_X0 rfl (cin rfl) rfl 3 (by decide) q425 (fun _ h => h) rfl dX0_strikeOf_7 ?_
  refine fg_getN (C := RX4) (T := TX4) (N := 9) (ci := 0) (g := 0) (i := 0) (v := .ref (G.ad 0 5)) hx hb hown hts hX hC in_X4 rfl (cin rfl) rfl 5 (by decide) (hX.2.2.1.F q257) (fun _ h => h) rfl dX0_strikeOf_10 ?_
  refine lv_iconst (v := 0) hx hb dX0_strikeOf_13 rfl ?_
  refine fg_ald (g := 0) (i := 5) (t0 := 1) (ty := .array .int) (v := .ref (G.ad 0 6)) hx hb hX hC (cin rfl) rfl rfl rfl (vin_b rfl) rfl dX0_strikeOf_14 ?_
  refine lv_iload_n hx hb dX0_strikeOf_15 rfl (lv_at hl 1 rfl) ?_
  refine fg_iald (g := 0) (i := 6) (t0 := 0) (v := d (92 + 4 * (ix k))) hx hb hX hC (cin rfl) rfl rfl hk rfl dX0_strikeOf_16 ?_
  refine lv_imul hx hb dX0_strikeOf_17 ?_
  refine lv_iload_n hx hb dX0_strikeOf_18 rfl (lv_at hl 1 rfl) ?_
  refine lv_iadd hx hb dX0_strikeOf_19 ?_
  refine fg_ald (g := 5) (i := 5) (t0 := 3) (ty := .object "OwlEars$Slot") (v := .ref (G.ad 35 (ix k))) hx hb hX hC (cin rfl) rfl rfl rfl (sk_ix (n := 5) qk (by decide) hk).2.2 (sk_ad (n := 5) qk (by decide) hk) dX0_strikeOf_20 ?_
  refine fg_getN (C := RX5) (T := TX5) (N := 1) (ci := 5) (g := 35) (i := (ix k)) (v := .ref (G.ad 25 (ix k))) hx hb hown hts hX hC in_X5 rfl (cin (decide_eq_true (vin_lt hk))) rfl 0 (by decide) (hX.2.2.1.F q323) (fun _ h => h) rfl dX0_strikeOf_21 ?_
  refine va_castY (C := RX11) hx hb hown (hts _ q415) (hX.2.2.1.C q1887) (fx_recv (g := 25) (i := (ix k)) (ci := 11) (q := (RX11, TX11, 3)) hX hC (cin (decide_eq_true (vin_lt hk))) rfl rfl) dX0_strikeOf_24 ?_
  exact fr_a hx hb hr (Or.inl ⟨_, rfl⟩) (Or.inr ⟨_, rfl⟩) hlocks hX hC () rfl rfl dX0_strikeOf_27
set_option maxRecDepth 100000 in
theorem m_X0_strikeOf_6 {l : Launch} {G : Gc} {d kp as un to sc fd tp sh : Row} {sp : Nat → Option Nat} (k : Int32) (hk : vp_in k 8) (qk : d (92 + 4 * ix k) = 6) : Cm l yX0_strikeOf (ws_ yX0_strikeOf cX0_strikeOf 2 (some (.object "OwlEars$Strike"))) ({ frames := 0, cells := 0, slots := 0, locals := 0 }) (cF G) [.ref (G.ad 5 0), .int k] (cct G (pg d kp as un to sc fd tp sh) sp) (fun _ : Unit => some (.ref (G.ad 26 (ix k)))) (fun _ => cct G (pg d kp as un to sc fd tp sh) sp) := by
  refine Cm.start (by decide) (Nat.le_of_ble_eq_true rfl) ?_
  intro p e s m below meth c hf hX hC ls hl
  obtain ⟨hx, hb, hr, hml, hown, hts, hlocks⟩ := hf
  have hl : lv_has ls 2 [(0, .ref (G.ad 5 0)), (1, .int k)] := hl
  have hown : s.vm.findClass "OwlEars" = some m.cls := hown
  refine lv_aload_n hx hb dX0_strikeOf_0 rfl (lv_at hl 0 rfl) ?_
  refine fg_get (C := RX0) (T := TX0) (N := 13) (ci := 1) (g := 5) (i := 0) (v := .ref (G.ad 5 5)) hx hb hown hts hX hC in_X0 rfl (cin rfl) rfl 8 (by decide) q430 (fun _ h => h) rfl dX0_strikeOf_1 ?_
  refine lv_bipush (v := 8) hx hb dX0_strikeOf_4 rfl ?_
  refine lv_aload_n hx hb dX0_strikeOf_6 rfl (lv_at hl 0 rfl) ?_
  refine fg_get (C := RX0) (T := TX0) (N := 13) (ci := 1) (g := 5) (i := 0) (v := .ref (G.ad 0 0)) hx hb hown hts hX hC in_X0 rfl (cin rfl) rfl 3 (by decide) q425 (fun _ h => h) rfl dX0_strikeOf_7 ?_
  refine fg_getN (C := RX4) (T := TX4) (N := 9) (ci := 0) (g := 0) (i := 0) (v := .ref (G.ad 0 5)) hx hb hown hts hX hC in_X4 rfl (cin rfl) rfl 5 (by decide) (hX.2.2.1.F q257) (fun _ h => h) rfl dX0_strikeOf_10 ?_
  refine lv_iconst (v := 0) hx hb dX0_strikeOf_13 rfl ?_
  refine fg_ald (g := 0) (i := 5) (t0 := 1) (ty := .array .int) (v := .ref (G.ad 0 6)) hx hb hX hC (cin rfl) rfl rfl rfl (vin_b rfl) rfl dX0_strikeOf_14 ?_
  refine lv_iload_n hx hb dX0_strikeOf_15 rfl (lv_at hl 1 rfl) ?_
  refine fg_iald (g := 0) (i := 6) (t0 := 0) (v := d (92 + 4 * (ix k))) hx hb hX hC (cin rfl) rfl rfl hk rfl dX0_strikeOf_16 ?_
  refine lv_imul hx hb dX0_strikeOf_17 ?_
  refine lv_iload_n hx hb dX0_strikeOf_18 rfl (lv_at hl 1 rfl) ?_
  refine lv_iadd hx hb dX0_strikeOf_19 ?_
  refine fg_ald (g := 5) (i := 5) (t0 := 3) (ty := .object "OwlEars$Slot") (v := .ref (G.ad 36 (ix k))) hx hb hX hC (cin rfl) rfl rfl rfl (sk_ix (n := 6) qk (by decide) hk).2.2 (sk_ad (n := 6) qk (by decide) hk) dX0_strikeOf_20 ?_
  refine fg_getN (C := RX5) (T := TX5) (N := 1) (ci := 5) (g := 36) (i := (ix k)) (v := .ref (G.ad 26 (ix k))) hx hb hown hts hX hC in_X5 rfl (cin (decide_eq_true (vin_lt hk))) rfl 0 (by decide) (hX.2.2.1.F q323) (fun _ h => h) rfl dX0_strikeOf_21 ?_
  refine va_castY (C := RX12) hx hb hown (hts _ q415) (hX.2.2.1.C q1885) (fx_recv (g := 26) (i := (ix k)) (ci := 12) (q := (RX12, TX12, 4)) hX hC (cin (decide_eq_true (vin_lt hk))) rfl rfl) dX0_strikeOf_24 ?_
  exact fr_a hx hb hr (Or.inl ⟨_, rfl⟩) (Or.inr ⟨_, rfl⟩) hlocks hX hC () rfl rfl dX0_strikeOf_27
set_option maxRecDepth 100000 in
theorem m_X0_takesOf {l : Launch} {G : Gc} {d kp as un to sc fd tp sh : Row} {sp : Nat → Option Nat} (hw : WF d) (k : Int32) (hk : vp_in k 8) : Cm l yX0_takesOf (ws_ yX0_takesOf cX0_takesOf 3 (some .int)) ({ frames := 8, cells := 0, slots := 0, locals := 300 }) (cF G) [.ref (G.ad 5 0), .int k] (cct G (pg d kp as un to sc fd tp sh) sp) (fun _ : Unit => some (.int (p_takes d k))) (fun _ => cct G (pg d kp as un to sc fd tp sh) sp) := by
  refine Cm.start (by decide) (Nat.le_of_ble_eq_true rfl) ?_
  intro p e s m below meth c hf hX hC ls hl
  obtain ⟨hx, hb, hr, hml, hown, hts, hlocks⟩ := hf
  have hl : lv_has ls 3 [(0, .ref (G.ad 5 0)), (1, .int k)] := hl
  have hown : s.vm.findClass "OwlEars" = some m.cls := hown
  rcases kind7' (hw.kind (ix k) (vin_lt hk)) with qk | qk | qk | qk | qk | qk | qk
  · refine lv_aload_n hx hb dX0_takesOf_0 rfl (lv_at hl 0 rfl) ?_
    refine lv_iload_n hx hb dX0_takesOf_1 rfl (lv_at hl 1 rfl) ?_
    refine fc_V (As := [.int k]) (rest := []) hx hb hml hown hts hX hC (m_X0_strikeOf_0 k hk qk) (lw_V q542 q544 qs5 q108 q545) hdV_X0_strikeOf ⟨rfl, rfl⟩ ⟨Nat.le_of_ble_eq_true rfl, Nat.le_of_ble_eq_true rfl⟩ (fx_recv (g := 5) (i := 0) (ci := 1) (q := (RX0, TX0, 13)) hX hC (cin rfl) rfl rfl) hl.1 rfl (Nat.le_of_ble_eq_true rfl) ⟨Nat.zero_le _, Nat.zero_le _⟩ dX0_takesOf_2 (fun _ H locs hC => ?_)
    refine W.eq (g2 := F0 m 5 ls [.ref (G.ad 20 (ix k))]) rfl ?_
    refine lv_astore_n (lv' := [(2, .ref (G.ad 20 (ix k))), (0, .ref (G.ad 5 0)), (1, .int k)]) hx hb dX0_takesOf_5 rfl hl (by decide) rfl (fun ls hl => ?_)
    refine lv_aload_n hx hb dX0_takesOf_6 rfl (lv_at hl 0 rfl) ?_
    refine fc_F (C := RX6) (x := ⟨"OwlEars$Strikes", "takes", "()I"⟩) (fx_at' (ci := 6) (q := (RX6, TX6, 2)) hX rfl).2 (As := []) (rest := []) hx hb hml hown hts hX hC (m_X6_takes_0 (ix k) (vin_lt hk)) (lw4 q580 q634 q590 q117) q591 (hX.2.2.1.Fw (by decide) q582 q581 q636 q635 q633) (by decide +kernel) ⟨rfl, rfl⟩ ⟨Nat.le_of_ble_eq_true rfl, Nat.le_of_ble_eq_true rfl⟩ (fx_recv (g := 20) (i := (ix k)) (ci := 6) (q := (RX6, TX6, 2)) hX hC (cin (decide_eq_true (vin_lt hk))) rfl rfl) hl.1 rfl (Nat.le_of_ble_eq_true rfl) ⟨Nat.zero_le _, Nat.zero_le _⟩ dX0_takesOf_7 (fun _ H locs hC => ?_)
    refine W.eq (g2 := F0 m 12 ls [.int (p_apart (d (93 + 4 * (ix k))) (d 8) + 1)]) rfl ?_
    exact fr_i hx hb hr hlocks hX hC () (congrArg (fun z => some (Value.int z)) (by simp [p_takes, p_far, qk])) rfl dX0_takesOf_12
  · refine lv_aload_n hx hb dX0_takesOf_0 rfl (lv_at hl 0 rfl) ?_
    refine lv_iload_n hx hb dX0_takesOf_1 rfl (lv_at hl 1 rfl) ?_
    refine fc_V (As := [.int k]) (rest := []) hx hb hml hown hts hX hC (m_X0_strikeOf_1 k hk qk) (lw_V q542 q544 qs5 q108 q545) hdV_X0_strikeOf ⟨rfl, rfl⟩ ⟨Nat.le_of_ble_eq_true rfl, Nat.le_of_ble_eq_true rfl⟩ (fx_recv (g := 5) (i := 0) (ci := 1) (q := (RX0, TX0, 13)) hX hC (cin rfl) rfl rfl) hl.1 rfl (Nat.le_of_ble_eq_true rfl) ⟨Nat.zero_le _, Nat.zero_le _⟩ dX0_takesOf_2 (fun _ H locs hC => ?_)
    refine W.eq (g2 := F0 m 5 ls [.ref (G.ad 21 (ix k))]) rfl ?_
    refine lv_astore_n (lv' := [(2, .ref (G.ad 21 (ix k))), (0, .ref (G.ad 5 0)), (1, .int k)]) hx hb dX0_takesOf_5 rfl hl (by decide) rfl (fun ls hl => ?_)
    refine lv_aload_n hx hb dX0_takesOf_6 rfl (lv_at hl 0 rfl) ?_
    refine fc_F (C := RX7) (x := ⟨"OwlEars$Strikes", "takes", "()I"⟩) (fx_at' (ci := 7) (q := (RX7, TX7, 3)) hX rfl).2 (As := []) (rest := []) hx hb hml hown hts hX hC (m_X7_takes_1 (ix k) (vin_lt hk)) (lw4 q580 q638 q611 q118) q612 (hX.2.2.1.Fw (by decide) q582 q581 q640 q639 q637) (by decide +kernel) ⟨rfl, rfl⟩ ⟨Nat.le_of_ble_eq_true rfl, Nat.le_of_ble_eq_true rfl⟩ (fx_recv (g := 21) (i := (ix k)) (ci := 7) (q := (RX7, TX7, 3)) hX hC (cin (decide_eq_true (vin_lt hk))) rfl rfl) hl.1 rfl (Nat.le_of_ble_eq_true rfl) ⟨Nat.zero_le _, Nat.zero_le _⟩ dX0_takesOf_7 (fun _ H locs hC => ?_)
    refine W.eq (g2 := F0 m 12 ls [.int ((p_apart (d (93 + 4 * (ix k))) (d 8)) / 2 + 1)]) rfl ?_
    exact fr_i hx hb hr hlocks hX hC () (congrArg (fun z => some (Value.int z)) (by simp [p_takes, p_far, qk])) rfl dX0_takesOf_12
  · refine lv_aload_n hx hb dX0_takesOf_0 rfl (lv_at hl 0 rfl) ?_
    refine lv_iload_n hx hb dX0_takesOf_1 rfl (lv_at hl 1 rfl) ?_
    refine fc_V (As := [.int k]) (rest := []) hx hb hml hown hts hX hC (m_X0_strikeOf_2 k hk qk) (lw_V q542 q544 qs5 q108 q545) hdV_X0_strikeOf ⟨rfl, rfl⟩ ⟨Nat.le_of_ble_eq_true rfl, Nat.le_of_ble_eq_true rfl⟩ (fx_recv (g := 5) (i := 0) (ci := 1) (q := (RX0, TX0, 13)) hX hC (cin rfl) rfl rfl) hl.1 rfl (Nat.le_of_ble_eq_true rfl) ⟨Nat.zero_le _, Nat.zero_le _⟩ dX0_takesOf_2 (fun _ H locs hC => ?_)
    refine W.eq (g2 := F0 m 5 ls [.ref (G.ad 22 (ix k))]) rfl ?_
    refine lv_astore_n (lv' := [(2, .ref (G.ad 22 (ix k))), (0, .ref (G.ad 5 0)), (1, .int k)]) hx hb dX0_takesOf_5 rfl hl (by decide) rfl (fun ls hl => ?_)
    refine lv_aload_n hx hb dX0_takesOf_6 rfl (lv_at hl 0 rfl) ?_
    refine fc_F (C := RX8) (x := ⟨"OwlEars$Strikes", "takes", "()I"⟩) (fx_at' (ci := 8) (q := (RX8, TX8, 3)) hX rfl).2 (As := []) (rest := []) hx hb hml hown hts hX hC (m_X8_takes_2 (ix k) (vin_lt hk)) (lw4 q580 q584 q586 q119) q588 (hX.2.2.1.Fw (by decide) q582 q581 q587 q585 q583) (by decide +kernel) ⟨rfl, rfl⟩ ⟨Nat.le_of_ble_eq_true rfl, Nat.le_of_ble_eq_true rfl⟩ (fx_recv (g := 22) (i := (ix k)) (ci := 8) (q := (RX8, TX8, 3)) hX hC (cin (decide_eq_true (vin_lt hk))) rfl rfl) hl.1 rfl (Nat.le_of_ble_eq_true rfl) ⟨Nat.zero_le _, Nat.zero_le _⟩ dX0_takesOf_7 (fun _ H locs hC => ?_)
    refine W.eq (g2 := F0 m 12 ls [.int (p_apart (d (93 + 4 * (ix k))) (d 8) + 2)]) rfl ?_
    exact fr_i hx hb hr hlocks hX hC () (congrArg (fun z => some (Value.int z)) (by simp [p_takes, p_far, qk])) rfl dX0_takesOf_12
  · refine lv_aload_n hx hb dX0_takesOf_0 rfl (lv_at hl 0 rfl) ?_
    refine lv_iload_n hx hb dX0_takesOf_1 rfl (lv_at hl 1 rfl) ?_
    refine fc_V (As := [.int k]) (rest := []) hx hb hml hown hts hX hC (m_X0_strikeOf_3 k hk qk) (lw_V q542 q544 qs5 q108 q545) hdV_X0_strikeOf ⟨rfl, rfl⟩ ⟨Nat.le_of_ble_eq_true rfl, Nat.le_of_ble_eq_true rfl⟩ (fx_recv (g := 5) (i := 0) (ci := 1) (q := (RX0, TX0, 13)) hX hC (cin rfl) rfl rfl) hl.1 rfl (Nat.le_of_ble_eq_true rfl) ⟨Nat.zero_le _, Nat.zero_le _⟩ dX0_takesOf_2 (fun _ H locs hC => ?_)
    refine W.eq (g2 := F0 m 5 ls [.ref (G.ad 23 (ix k))]) rfl ?_
    refine lv_astore_n (lv' := [(2, .ref (G.ad 23 (ix k))), (0, .ref (G.ad 5 0)), (1, .int k)]) hx hb dX0_takesOf_5 rfl hl (by decide) rfl (fun ls hl => ?_)
    refine lv_aload_n hx hb dX0_takesOf_6 rfl (lv_at hl 0 rfl) ?_
    refine fc_F (C := RX9) (x := ⟨"OwlEars$Strikes", "takes", "()I"⟩) (fx_at' (ci := 9) (q := (RX9, TX9, 4)) hX rfl).2 (As := []) (rest := []) hx hb hml hown hts hX hC (m_X9_takes_3 (ix k) (vin_lt hk)) (lw4 q580 q621 q623 q120) q625 (hX.2.2.1.Fw (by decide) q582 q581 q624 q622 q620) (by decide +kernel) ⟨rfl, rfl⟩ ⟨Nat.le_of_ble_eq_true rfl, Nat.le_of_ble_eq_true rfl⟩ (fx_recv (g := 23) (i := (ix k)) (ci := 9) (q := (RX9, TX9, 4)) hX hC (cin (decide_eq_true (vin_lt hk))) rfl rfl) hl.1 rfl (Nat.le_of_ble_eq_true rfl) ⟨Nat.zero_le _, Nat.zero_le _⟩ dX0_takesOf_7 (fun _ H locs hC => ?_)
    refine W.eq (g2 := F0 m 12 ls [.int (p_apart (d (93 + 4 * (ix k))) (d 8) + 4)]) rfl ?_
    exact fr_i hx hb hr hlocks hX hC () (congrArg (fun z => some (Value.int z)) (by simp [p_takes, p_far, qk])) rfl dX0_takesOf_12
  · refine lv_aload_n hx hb dX0_takesOf_0 rfl (lv_at hl 0 rfl) ?_
    refine lv_iload_n hx hb dX0_takesOf_1 rfl (lv_at hl 1 rfl) ?_
    refine fc_V (As := [.int k]) (rest := []) hx hb hml hown hts hX hC (m_X0_strikeOf_4 k hk qk) (lw_V q542 q544 qs5 q108 q545) hdV_X0_strikeOf ⟨rfl, rfl⟩ ⟨Nat.le_of_ble_eq_true rfl, Nat.le_of_ble_eq_true rfl⟩ (fx_recv (g := 5) (i := 0) (ci := 1) (q := (RX0, TX0, 13)) hX hC (cin rfl) rfl rfl) hl.1 rfl (Nat.le_of_ble_eq_true rfl) ⟨Nat.zero_le _, Nat.zero_le _⟩ dX0_takesOf_2 (fun _ H locs hC => ?_)
    refine W.eq (g2 := F0 m 5 ls [.ref (G.ad 24 (ix k))]) rfl ?_
    refine lv_astore_n (lv' := [(2, .ref (G.ad 24 (ix k))), (0, .ref (G.ad 5 0)), (1, .int k)]) hx hb dX0_takesOf_5 rfl hl (by decide) rfl (fun ls hl => ?_)
    refine lv_aload_n hx hb dX0_takesOf_6 rfl (lv_at hl 0 rfl) ?_
    refine fc_F (C := RX10) (x := ⟨"OwlEars$Strikes", "takes", "()I"⟩) (fx_at' (ci := 10) (q := (RX10, TX10, 5)) hX rfl).2 (As := []) (rest := []) hx hb hml hown hts hX hC (m_X10_takes_4 (ix k) (vin_lt hk)) (lw4 q580 q642 q644 q121) q646 (hX.2.2.1.Fw (by decide) q582 q581 q645 q643 q641) (by decide +kernel) ⟨rfl, rfl⟩ ⟨Nat.le_of_ble_eq_true rfl, Nat.le_of_ble_eq_true rfl⟩ (fx_recv (g := 24) (i := (ix k)) (ci := 10) (q := (RX10, TX10, 5)) hX hC (cin (decide_eq_true (vin_lt hk))) rfl rfl) hl.1 rfl (Nat.le_of_ble_eq_true rfl) ⟨Nat.zero_le _, Nat.zero_le _⟩ dX0_takesOf_7 (fun _ H locs hC => ?_)
    refine W.eq (g2 := F0 m 12 ls [.int (p_apart (d (93 + 4 * (ix k))) (d 8) + 4 + d (94 + 4 * (ix k)))]) rfl ?_
    exact fr_i hx hb hr hlocks hX hC () (congrArg (fun z => some (Value.int z)) (by simp [p_takes, p_far, qk])) rfl dX0_takesOf_12
  · refine lv_aload_n hx hb dX0_takesOf_0 rfl (lv_at hl 0 rfl) ?_
    refine lv_iload_n hx hb dX0_takesOf_1 rfl (lv_at hl 1 rfl) ?_
    refine fc_V (As := [.int k]) (rest := []) hx hb hml hown hts hX hC (m_X0_strikeOf_5 k hk qk) (lw_V q542 q544 qs5 q108 q545) hdV_X0_strikeOf ⟨rfl, rfl⟩ ⟨Nat.le_of_ble_eq_true rfl, Nat.le_of_ble_eq_true rfl⟩ (fx_recv (g := 5) (i := 0) (ci := 1) (q := (RX0, TX0, 13)) hX hC (cin rfl) rfl rfl) hl.1 rfl (Nat.le_of_ble_eq_true rfl) ⟨Nat.zero_le _, Nat.zero_le _⟩ dX0_takesOf_2 (fun _ H locs hC => ?_)
    refine W.eq (g2 := F0 m 5 ls [.ref (G.ad 25 (ix k))]) rfl ?_
    refine lv_astore_n (lv' := [(2, .ref (G.ad 25 (ix k))), (0, .ref (G.ad 5 0)), (1, .int k)]) hx hb dX0_takesOf_5 rfl hl (by decide) rfl (fun ls hl => ?_)
    refine lv_aload_n hx hb dX0_takesOf_6 rfl (lv_at hl 0 rfl) ?_
    refine fc_F (C := RX11) (x := ⟨"OwlEars$Strikes", "takes", "()I"⟩) (fx_at' (ci := 11) (q := (RX11, TX11, 3)) hX rfl).2 (As := []) (rest := []) hx hb hml hown hts hX hC (m_X11_takes_5 (ix k) (vin_lt hk)) (lw4 q580 q628 q630 q122) q632 (hX.2.2.1.Fw (by decide) q582 q581 q631 q629 q627) (by decide +kernel) ⟨rfl, rfl⟩ ⟨Nat.le_of_ble_eq_true rfl, Nat.le_of_ble_eq_true rfl⟩ (fx_recv (g := 25) (i := (ix k)) (ci := 11) (q := (RX11, TX11, 3)) hX hC (cin (decide_eq_true (vin_lt hk))) rfl rfl) hl.1 rfl (Nat.le_of_ble_eq_true rfl) ⟨Nat.zero_le _, Nat.zero_le _⟩ dX0_takesOf_7 (fun _ H locs hC => ?_)
    refine W.eq (g2 := F0 m 12 ls [.int 1]) rfl ?_
    exact fr_i hx hb hr hlocks hX hC () (congrArg (fun z => some (Value.int z)) (by simp [p_takes, p_far, qk])) rfl dX0_takesOf_12
  · refine lv_aload_n hx hb dX0_takesOf_0 rfl (lv_at hl 0 rfl) ?_
    refine lv_iload_n hx hb dX0_takesOf_1 rfl (lv_at hl 1 rfl) ?_
    refine fc_V (As := [.int k]) (rest := []) hx hb hml hown hts hX hC (m_X0_strikeOf_6 k hk qk) (lw_V q542 q544 qs5 q108 q545) hdV_X0_strikeOf ⟨rfl, rfl⟩ ⟨Nat.le_of_ble_eq_true rfl, Nat.le_of_ble_eq_true rfl⟩ (fx_recv (g := 5) (i := 0) (ci := 1) (q := (RX0, TX0, 13)) hX hC (cin rfl) rfl rfl) hl.1 rfl (Nat.le_of_ble_eq_true rfl) ⟨Nat.zero_le _, Nat.zero_le _⟩ dX0_takesOf_2 (fun _ H locs hC => ?_)
    refine W.eq (g2 := F0 m 5 ls [.ref (G.ad 26 (ix k))]) rfl ?_
    refine lv_astore_n (lv' := [(2, .ref (G.ad 26 (ix k))), (0, .ref (G.ad 5 0)), (1, .int k)]) hx hb dX0_takesOf_5 rfl hl (by decide) rfl (fun ls hl => ?_)
    refine lv_aload_n hx hb dX0_takesOf_6 rfl (lv_at hl 0 rfl) ?_
    refine fc_F (C := RX12) (x := ⟨"OwlEars$Strikes", "takes", "()I"⟩) (fx_at' (ci := 12) (q := (RX12, TX12, 4)) hX rfl).2 (As := []) (rest := []) hx hb hml hown hts hX hC (m_X12_takes_6 (ix k) (vin_lt hk)) (lw4 q580 q605 q607 q123) q609 (hX.2.2.1.Fw (by decide) q582 q581 q608 q606 q604) (by decide +kernel) ⟨rfl, rfl⟩ ⟨Nat.le_of_ble_eq_true rfl, Nat.le_of_ble_eq_true rfl⟩ (fx_recv (g := 26) (i := (ix k)) (ci := 12) (q := (RX12, TX12, 4)) hX hC (cin (decide_eq_true (vin_lt hk))) rfl rfl) hl.1 rfl (Nat.le_of_ble_eq_true rfl) ⟨Nat.zero_le _, Nat.zero_le _⟩ dX0_takesOf_7 (fun _ H locs hC => ?_)
    refine W.eq (g2 := F0 m 12 ls [.int ((p_apart (d (93 + 4 * (ix k))) (d 8)) / 2 + 2)]) rfl ?_
    exact fr_i hx hb hr hlocks hX hC () (congrArg (fun z => some (Value.int z)) (by simp [p_takes, p_far, qk])) rfl dX0_takesOf_12
set_option maxRecDepth 100000 in
theorem m_X0_hits {l : Launch} {G : Gc} {d kp as un to sc fd tp sh : Row} {sp : Nat → Option Nat} (hw : WF d) (k : Int32) (hk : vp_in k 8) : Cm l yX0_hits (ws_ yX0_hits cX0_hits 4 (some .boolean)) ({ frames := 8, cells := 0, slots := 0, locals := 300 }) (cF G) [.ref (G.ad 5 0), .int k] (cct G (pg d kp as un to sc fd tp sh) sp) (fun _ : Unit => some (.int (b2i (p_hits d k)))) (fun _ => cct G (pg d kp as un to sc fd tp sh) sp) := by
  refine Cm.start (by decide) (Nat.le_of_ble_eq_true rfl) ?_
  intro p e s m below meth c hf hX hC ls hl
  obtain ⟨hx, hb, hr, hml, hown, hts, hlocks⟩ := hf
  have hl : lv_has ls 4 [(0, .ref (G.ad 5 0)), (1, .int k)] := hl
  have hown : s.vm.findClass "OwlEars" = some m.cls := hown
  rcases kind7' (hw.kind (ix k) (vin_lt hk)) with qk | qk | qk | qk | qk | qk | qk
  · refine lv_aload_n hx hb dX0_hits_0 rfl (lv_at hl 0 rfl) ?_
    refine lv_iload_n hx hb dX0_hits_1 rfl (lv_at hl 1 rfl) ?_
    refine fc_V (As := [.int k]) (rest := []) hx hb hml hown hts hX hC (m_X0_strikeOf_0 k hk qk) (lw_V q542 q544 qs5 q108 q545) hdV_X0_strikeOf ⟨rfl, rfl⟩ ⟨Nat.le_of_ble_eq_true rfl, Nat.le_of_ble_eq_true rfl⟩ (fx_recv (g := 5) (i := 0) (ci := 1) (q := (RX0, TX0, 13)) hX hC (cin rfl) rfl rfl) hl.1 rfl (Nat.le_of_ble_eq_true rfl) ⟨Nat.zero_le _, Nat.zero_le _⟩ dX0_hits_2 (fun _ H locs hC => ?_)
    refine W.eq (g2 := F0 m 5 ls [.ref (G.ad 20 (ix k))]) rfl ?_
    refine lv_astore_n (lv' := [(2, .ref (G.ad 20 (ix k))), (0, .ref (G.ad 5 0)), (1, .int k)]) hx hb dX0_hits_5 rfl hl (by decide) rfl (fun ls hl => ?_)
    refine lv_aload_n hx hb dX0_hits_6 rfl (lv_at hl 1 rfl) ?_
    refine fg_get (C := RX0) (T := TX0) (N := 13) (ci := 1) (g := 5) (i := 0) (v := .ref (G.ad 0 0)) hx hb hown hts hX hC in_X0 rfl (cin rfl) rfl 3 (by decide) q425 (fun _ h => h) rfl dX0_hits_7 ?_
    refine fg_getN (C := RX4) (T := TX4) (N := 9) (ci := 0) (g := 0) (i := 0) (v := .ref (G.ad 0 3)) hx hb hown hts hX hC in_X4 rfl (cin rfl) rfl 2 (by decide) (hX.2.2.1.F q246) (fun _ h => h) rfl dX0_hits_10 ?_
    refine lv_iconst (v := 0) hx hb dX0_hits_13 rfl ?_
    refine fg_iald (g := 0) (i := 3) (t0 := 0) (v := d 3) hx hb hX hC (cin rfl) rfl rfl (vin_b rfl) rfl dX0_hits_14 ?_
    refine lv_istore_n (lv' := [(3, .int (d 3)), (2, .ref (G.ad 20 (ix k))), (0, .ref (G.ad 5 0)), (1, .int k)]) hx hb dX0_hits_15 rfl hl (by decide) rfl (fun ls hl => ?_)
    refine lv_aload_n hx hb dX0_hits_16 rfl (lv_at hl 2 rfl) ?_
    refine fg_get (C := RX0) (T := TX0) (N := 13) (ci := 1) (g := 5) (i := 0) (v := .ref (G.ad 0 0)) hx hb hown hts hX hC in_X0 rfl (cin rfl) rfl 3 (by decide) q425 (fun _ h => h) rfl dX0_hits_17 ?_
    refine fg_getN (C := RX4) (T := TX4) (N := 9) (ci := 0) (g := 0) (i := 0) (v := .ref (G.ad 0 5)) hx hb hown hts hX hC in_X4 rfl (cin rfl) rfl 5 (by decide) (hX.2.2.1.F q257) (fun _ h => h) rfl dX0_hits_20 ?_
    refine lv_iconst (v := 1) hx hb dX0_hits_23 rfl ?_
    refine fg_ald (g := 0) (i := 5) (t0 := 1) (ty := .array .int) (v := .ref (G.ad 0 7)) hx hb hX hC (cin rfl) rfl rfl rfl (vin_b rfl) rfl dX0_hits_24 ?_
    refine lv_iload_n hx hb dX0_hits_25 rfl (lv_at hl 3 rfl) ?_
    refine fg_iald (g := 0) (i := 7) (t0 := 0) (v := d (93 + 4 * (ix k))) hx hb hX hC (cin rfl) rfl rfl hk rfl dX0_hits_26 ?_
    refine lv_iload_n hx hb dX0_hits_27 rfl (lv_at hl 0 rfl) ?_
    refine fc_S (As := [.int (d (93 + 4 * (ix k))), .int (d 3)]) (rest := []) hx hb hml hown hts hX hC (m_X0_apart (d (93 + 4 * (ix k))) (d 3)) (lw_S q725 q497 q108 q498) hdS_X0_apart ⟨rfl, rfl⟩ ⟨Nat.le_of_ble_eq_true rfl, Nat.le_of_ble_eq_true rfl⟩ hl.1 rfl (Nat.le_of_ble_eq_true rfl) ⟨Nat.zero_le _, Nat.zero_le _⟩ dX0_hits_28 (fun _ H locs hC => ?_)
    refine W.eq (g2 := F0 m 31 ls [.int (p_apart (d (93 + 4 * (ix k))) (d 3))]) rfl ?_
    refine lv_aload_n hx hb dX0_hits_31 rfl (lv_at hl 1 rfl) ?_
    refine fc_F (C := RX6) (x := ⟨"OwlEars$Strikes", "wide", "()I"⟩) (fx_at' (ci := 6) (q := (RX6, TX6, 2)) hX rfl).2 (As := []) (rest := [.int (p_apart (d (93 + 4 * (ix k))) (d 3))]) hx hb hml hown hts hX hC (m_X6_wide_0 (ix k) (vin_lt hk)) (lw4 q727 q741 q680 q117) q695 (hX.2.2.1.Fw (by decide) q729 q728 q735 q742 q633) (by decide +kernel) ⟨rfl, rfl⟩ ⟨Nat.le_of_ble_eq_true rfl, Nat.le_of_ble_eq_true rfl⟩ (fx_recv (g := 20) (i := (ix k)) (ci := 6) (q := (RX6, TX6, 2)) hX hC (cin (decide_eq_true (vin_lt hk))) rfl rfl) hl.1 rfl (Nat.le_of_ble_eq_true rfl) ⟨Nat.zero_le _, Nat.zero_le _⟩ dX0_hits_32 (fun _ H locs hC => ?_)
    refine W.eq (g2 := F0 m 37 ls [.int 0, .int (p_apart (d (93 + 4 * (ix k))) (d 3))]) rfl ?_
    refine lv_icmp_gt (tgt := 62) hx hb dX0_hits_37 (by decide) (fun c_4 => ?_) (fun c_4 => ?_)
    · refine lv_iconst (v := 0) hx hb dX0_hits_62 rfl ?_
      exact fr_z hx hb hr rfl hlocks hX hC () (congrArg (fun z => some (Value.int z)) (b2i_f (by simp [p_hits, p_wide, p_deep, qk, c_4]))) rfl dX0_hits_63
    · refine lv_aload_n hx hb dX0_hits_40 rfl (lv_at hl 2 rfl) ?_
      refine fg_get (C := RX0) (T := TX0) (N := 13) (ci := 1) (g := 5) (i := 0) (v := .ref (G.ad 0 0)) hx hb hown hts hX hC in_X0 rfl (cin rfl) rfl 3 (by decide) q425 (fun _ h => h) rfl dX0_hits_41 ?_
      refine fg_getN (C := RX4) (T := TX4) (N := 9) (ci := 0) (g := 0) (i := 0) (v := .ref (G.ad 0 1)) hx hb hown hts hX hC in_X4 rfl (cin rfl) rfl 0 (by decide) (hX.2.2.1.F q240) (fun _ h => h) rfl dX0_hits_44 ?_
      refine lv_iload_n hx hb dX0_hits_47 rfl (lv_at hl 0 rfl) ?_
      refine fg_iald (g := 0) (i := 1) (t0 := 0) (v := d (20 + ix (d 3))) hx hb hX hC (cin rfl) rfl rfl hw.mouse rfl dX0_hits_48 ?_
      refine lv_aload_n hx hb dX0_hits_49 rfl (lv_at hl 1 rfl) ?_
      refine fc_F (C := RX6) (x := ⟨"OwlEars$Strikes", "deep", "()I"⟩) (fx_at' (ci := 6) (q := (RX6, TX6, 2)) hX rfl).2 (As := []) (rest := [.int (d (20 + ix (d 3)))]) hx hb hml hown hts hX hC (m_X6_deep_0 (ix k) (vin_lt hk)) (lw4 q748 q762 q653 q117) q678 (hX.2.2.1.Fw (by decide) q750 q749 q764 q763 q633) (by decide +kernel) ⟨rfl, rfl⟩ ⟨Nat.le_of_ble_eq_true rfl, Nat.le_of_ble_eq_true rfl⟩ (fx_recv (g := 20) (i := (ix k)) (ci := 6) (q := (RX6, TX6, 2)) hX hC (cin (decide_eq_true (vin_lt hk))) rfl rfl) hl.1 rfl (Nat.le_of_ble_eq_true rfl) ⟨Nat.zero_le _, Nat.zero_le _⟩ dX0_hits_50 (fun _ H locs hC => ?_)
      refine W.eq (g2 := F0 m 55 ls [.int 8, .int (d (20 + ix (d 3)))]) rfl ?_
      refine lv_icmp_gt (tgt := 62) hx hb dX0_hits_55 (by decide) (fun c_6 => ?_) (fun c_6 => ?_)
      · refine lv_iconst (v := 0) hx hb dX0_hits_62 rfl ?_
        exact fr_z hx hb hr rfl hlocks hX hC () (congrArg (fun z => some (Value.int z)) (b2i_f (by simp [p_hits, p_wide, p_deep, qk, c_4, c_6]))) rfl dX0_hits_63
      · refine lv_iconst (v := 1) hx hb dX0_hits_58 rfl ?_
        refine lv_goto (tgt := 63) hx hb dX0_hits_59 (by decide) ?_
        exact fr_z hx hb hr rfl hlocks hX hC () (congrArg (fun z => some (Value.int z)) (b2i_t (by simp [p_hits, p_wide, p_deep, qk, c_4, c_6]))) rfl dX0_hits_63
  · refine lv_aload_n hx hb dX0_hits_0 rfl (lv_at hl 0 rfl) ?_
    refine lv_iload_n hx hb dX0_hits_1 rfl (lv_at hl 1 rfl) ?_
    refine fc_V (As := [.int k]) (rest := []) hx hb hml hown hts hX hC (m_X0_strikeOf_1 k hk qk) (lw_V q542 q544 qs5 q108 q545) hdV_X0_strikeOf ⟨rfl, rfl⟩ ⟨Nat.le_of_ble_eq_true rfl, Nat.le_of_ble_eq_true rfl⟩ (fx_recv (g := 5) (i := 0) (ci := 1) (q := (RX0, TX0, 13)) hX hC (cin rfl) rfl rfl) hl.1 rfl (Nat.le_of_ble_eq_true rfl) ⟨Nat.zero_le _, Nat.zero_le _⟩ dX0_hits_2 (fun _ H locs hC => ?_)
    refine W.eq (g2 := F0 m 5 ls [.ref (G.ad 21 (ix k))]) rfl ?_
    refine lv_astore_n (lv' := [(2, .ref (G.ad 21 (ix k))), (0, .ref (G.ad 5 0)), (1, .int k)]) hx hb dX0_hits_5 rfl hl (by decide) rfl (fun ls hl => ?_)
    refine lv_aload_n hx hb dX0_hits_6 rfl (lv_at hl 1 rfl) ?_
    refine fg_get (C := RX0) (T := TX0) (N := 13) (ci := 1) (g := 5) (i := 0) (v := .ref (G.ad 0 0)) hx hb hown hts hX hC in_X0 rfl (cin rfl) rfl 3 (by decide) q425 (fun _ h => h) rfl dX0_hits_7 ?_
    refine fg_getN (C := RX4) (T := TX4) (N := 9) (ci := 0) (g := 0) (i := 0) (v := .ref (G.ad 0 3)) hx hb hown hts hX hC in_X4 rfl (cin rfl) rfl 2 (by decide) (hX.2.2.1.F q246) (fun _ h => h) rfl dX0_hits_10 ?_
    refine lv_iconst (v := 0) hx hb dX0_hits_13 rfl ?_
    refine fg_iald (g := 0) (i := 3) (t0 := 0) (v := d 3) hx hb hX hC (cin rfl) rfl rfl (vin_b rfl) rfl dX0_hits_14 ?_
    refine lv_istore_n (lv' := [(3, .int (d 3)), (2, .ref (G.ad 21 (ix k))), (0, .ref (G.ad 5 0)), (1, .int k)]) hx hb dX0_hits_15 rfl hl (by decide) rfl (fun ls hl => ?_)
    refine lv_aload_n hx hb dX0_hits_16 rfl (lv_at hl 2 rfl) ?_
    refine fg_get (C := RX0) (T := TX0) (N := 13) (ci := 1) (g := 5) (i := 0) (v := .ref (G.ad 0 0)) hx hb hown hts hX hC in_X0 rfl (cin rfl) rfl 3 (by decide) q425 (fun _ h => h) rfl dX0_hits_17 ?_
    refine fg_getN (C := RX4) (T := TX4) (N := 9) (ci := 0) (g := 0) (i := 0) (v := .ref (G.ad 0 5)) hx hb hown hts hX hC in_X4 rfl (cin rfl) rfl 5 (by decide) (hX.2.2.1.F q257) (fun _ h => h) rfl dX0_hits_20 ?_
    refine lv_iconst (v := 1) hx hb dX0_hits_23 rfl ?_
    refine fg_ald (g := 0) (i := 5) (t0 := 1) (ty := .array .int) (v := .ref (G.ad 0 7)) hx hb hX hC (cin rfl) rfl rfl rfl (vin_b rfl) rfl dX0_hits_24 ?_
    refine lv_iload_n hx hb dX0_hits_25 rfl (lv_at hl 3 rfl) ?_
    refine fg_iald (g := 0) (i := 7) (t0 := 0) (v := d (93 + 4 * (ix k))) hx hb hX hC (cin rfl) rfl rfl hk rfl dX0_hits_26 ?_
    refine lv_iload_n hx hb dX0_hits_27 rfl (lv_at hl 0 rfl) ?_
    refine fc_S (As := [.int (d (93 + 4 * (ix k))), .int (d 3)]) (rest := []) hx hb hml hown hts hX hC (m_X0_apart (d (93 + 4 * (ix k))) (d 3)) (lw_S q725 q497 q108 q498) hdS_X0_apart ⟨rfl, rfl⟩ ⟨Nat.le_of_ble_eq_true rfl, Nat.le_of_ble_eq_true rfl⟩ hl.1 rfl (Nat.le_of_ble_eq_true rfl) ⟨Nat.zero_le _, Nat.zero_le _⟩ dX0_hits_28 (fun _ H locs hC => ?_)
    refine W.eq (g2 := F0 m 31 ls [.int (p_apart (d (93 + 4 * (ix k))) (d 3))]) rfl ?_
    refine lv_aload_n hx hb dX0_hits_31 rfl (lv_at hl 1 rfl) ?_
    refine fc_F (C := RX7) (x := ⟨"OwlEars$Strikes", "wide", "()I"⟩) (fx_at' (ci := 7) (q := (RX7, TX7, 3)) hX rfl).2 (As := []) (rest := [.int (p_apart (d (93 + 4 * (ix k))) (d 3))]) hx hb hml hown hts hX hC (m_X6_wide_1 (ix k) (vin_lt hk)) (lw4 q727 q743 q680 q117) q695 (hX.2.2.1.Fw (by decide) q729 q728 q735 q744 q637) (by decide +kernel) ⟨rfl, rfl⟩ ⟨Nat.le_of_ble_eq_true rfl, Nat.le_of_ble_eq_true rfl⟩ (fx_recv (g := 21) (i := (ix k)) (ci := 7) (q := (RX7, TX7, 3)) hX hC (cin (decide_eq_true (vin_lt hk))) rfl rfl) hl.1 rfl (Nat.le_of_ble_eq_true rfl) ⟨Nat.zero_le _, Nat.zero_le _⟩ dX0_hits_32 (fun _ H locs hC => ?_)
    refine W.eq (g2 := F0 m 37 ls [.int 0, .int (p_apart (d (93 + 4 * (ix k))) (d 3))]) rfl ?_
    refine lv_icmp_gt (tgt := 62) hx hb dX0_hits_37 (by decide) (fun c_10 => ?_) (fun c_10 => ?_)
    · refine lv_iconst (v := 0) hx hb dX0_hits_62 rfl ?_
      exact fr_z hx hb hr rfl hlocks hX hC () (congrArg (fun z => some (Value.int z)) (b2i_f (by simp [p_hits, p_wide, p_deep, qk, c_10]))) rfl dX0_hits_63
    · refine lv_aload_n hx hb dX0_hits_40 rfl (lv_at hl 2 rfl) ?_
      refine fg_get (C := RX0) (T := TX0) (N := 13) (ci := 1) (g := 5) (i := 0) (v := .ref (G.ad 0 0)) hx hb hown hts hX hC in_X0 rfl (cin rfl) rfl 3 (by decide) q425 (fun _ h => h) rfl dX0_hits_41 ?_
      refine fg_getN (C := RX4) (T := TX4) (N := 9) (ci := 0) (g := 0) (i := 0) (v := .ref (G.ad 0 1)) hx hb hown hts hX hC in_X4 rfl (cin rfl) rfl 0 (by decide) (hX.2.2.1.F q240) (fun _ h => h) rfl dX0_hits_44 ?_
      refine lv_iload_n hx hb dX0_hits_47 rfl (lv_at hl 0 rfl) ?_
      refine fg_iald (g := 0) (i := 1) (t0 := 0) (v := d (20 + ix (d 3))) hx hb hX hC (cin rfl) rfl rfl hw.mouse rfl dX0_hits_48 ?_
      refine lv_aload_n hx hb dX0_hits_49 rfl (lv_at hl 1 rfl) ?_
      refine fc_F (C := RX7) (x := ⟨"OwlEars$Strikes", "deep", "()I"⟩) (fx_at' (ci := 7) (q := (RX7, TX7, 3)) hX rfl).2 (As := []) (rest := [.int (d (20 + ix (d 3)))]) hx hb hml hown hts hX hC (m_X7_deep_1 (ix k) (vin_lt hk)) (lw4 q748 q765 q664 q118) q665 (hX.2.2.1.Fw (by decide) q750 q749 q767 q766 q637) (by decide +kernel) ⟨rfl, rfl⟩ ⟨Nat.le_of_ble_eq_true rfl, Nat.le_of_ble_eq_true rfl⟩ (fx_recv (g := 21) (i := (ix k)) (ci := 7) (q := (RX7, TX7, 3)) hX hC (cin (decide_eq_true (vin_lt hk))) rfl rfl) hl.1 rfl (Nat.le_of_ble_eq_true rfl) ⟨Nat.zero_le _, Nat.zero_le _⟩ dX0_hits_50 (fun _ H locs hC => ?_)
      refine W.eq (g2 := F0 m 55 ls [.int 12, .int (d (20 + ix (d 3)))]) rfl ?_
      refine lv_icmp_gt (tgt := 62) hx hb dX0_hits_55 (by decide) (fun c_12 => ?_) (fun c_12 => ?_)
      · refine lv_iconst (v := 0) hx hb dX0_hits_62 rfl ?_
        exact fr_z hx hb hr rfl hlocks hX hC () (congrArg (fun z => some (Value.int z)) (b2i_f (by simp [p_hits, p_wide, p_deep, qk, c_10, c_12]))) rfl dX0_hits_63
      · refine lv_iconst (v := 1) hx hb dX0_hits_58 rfl ?_
        refine lv_goto (tgt := 63) hx hb dX0_hits_59 (by decide) ?_
        exact fr_z hx hb hr rfl hlocks hX hC () (congrArg (fun z => some (Value.int z)) (b2i_t (by simp [p_hits, p_wide, p_deep, qk, c_10, c_12]))) rfl dX0_hits_63
  · refine lv_aload_n hx hb dX0_hits_0 rfl (lv_at hl 0 rfl) ?_
    refine lv_iload_n hx hb dX0_hits_1 rfl (lv_at hl 1 rfl) ?_
    refine fc_V (As := [.int k]) (rest := []) hx hb hml hown hts hX hC (m_X0_strikeOf_2 k hk qk) (lw_V q542 q544 qs5 q108 q545) hdV_X0_strikeOf ⟨rfl, rfl⟩ ⟨Nat.le_of_ble_eq_true rfl, Nat.le_of_ble_eq_true rfl⟩ (fx_recv (g := 5) (i := 0) (ci := 1) (q := (RX0, TX0, 13)) hX hC (cin rfl) rfl rfl) hl.1 rfl (Nat.le_of_ble_eq_true rfl) ⟨Nat.zero_le _, Nat.zero_le _⟩ dX0_hits_2 (fun _ H locs hC => ?_)
    refine W.eq (g2 := F0 m 5 ls [.ref (G.ad 22 (ix k))]) rfl ?_
    refine lv_astore_n (lv' := [(2, .ref (G.ad 22 (ix k))), (0, .ref (G.ad 5 0)), (1, .int k)]) hx hb dX0_hits_5 rfl hl (by decide) rfl (fun ls hl => ?_)
    refine lv_aload_n hx hb dX0_hits_6 rfl (lv_at hl 1 rfl) ?_
    refine fg_get (C := RX0) (T := TX0) (N := 13) (ci := 1) (g := 5) (i := 0) (v := .ref (G.ad 0 0)) hx hb hown hts hX hC in_X0 rfl (cin rfl) rfl 3 (by decide) q425 (fun _ h => h) rfl dX0_hits_7 ?_
    refine fg_getN (C := RX4) (T := TX4) (N := 9) (ci := 0) (g := 0) (i := 0) (v := .ref (G.ad 0 3)) hx hb hown hts hX hC in_X4 rfl (cin rfl) rfl 2 (by decide) (hX.2.2.1.F q246) (fun _ h => h) rfl dX0_hits_10 ?_
    refine lv_iconst (v := 0) hx hb dX0_hits_13 rfl ?_
    refine fg_iald (g := 0) (i := 3) (t0 := 0) (v := d 3) hx hb hX hC (cin rfl) rfl rfl (vin_b rfl) rfl dX0_hits_14 ?_
    refine lv_istore_n (lv' := [(3, .int (d 3)), (2, .ref (G.ad 22 (ix k))), (0, .ref (G.ad 5 0)), (1, .int k)]) hx hb dX0_hits_15 rfl hl (by decide) rfl (fun ls hl => ?_)
    refine lv_aload_n hx hb dX0_hits_16 rfl (lv_at hl 2 rfl) ?_
    refine fg_get (C := RX0) (T := TX0) (N := 13) (ci := 1) (g := 5) (i := 0) (v := .ref (G.ad 0 0)) hx hb hown hts hX hC in_X0 rfl (cin rfl) rfl 3 (by decide) q425 (fun _ h => h) rfl dX0_hits_17 ?_
    refine fg_getN (C := RX4) (T := TX4) (N := 9) (ci := 0) (g := 0) (i := 0) (v := .ref (G.ad 0 5)) hx hb hown hts hX hC in_X4 rfl (cin rfl) rfl 5 (by decide) (hX.2.2.1.F q257) (fun _ h => h) rfl dX0_hits_20 ?_
    refine lv_iconst (v := 1) hx hb dX0_hits_23 rfl ?_
    refine fg_ald (g := 0) (i := 5) (t0 := 1) (ty := .array .int) (v := .ref (G.ad 0 7)) hx hb hX hC (cin rfl) rfl rfl rfl (vin_b rfl) rfl dX0_hits_24 ?_
    refine lv_iload_n hx hb dX0_hits_25 rfl (lv_at hl 3 rfl) ?_
    refine fg_iald (g := 0) (i := 7) (t0 := 0) (v := d (93 + 4 * (ix k))) hx hb hX hC (cin rfl) rfl rfl hk rfl dX0_hits_26 ?_
    refine lv_iload_n hx hb dX0_hits_27 rfl (lv_at hl 0 rfl) ?_
    refine fc_S (As := [.int (d (93 + 4 * (ix k))), .int (d 3)]) (rest := []) hx hb hml hown hts hX hC (m_X0_apart (d (93 + 4 * (ix k))) (d 3)) (lw_S q725 q497 q108 q498) hdS_X0_apart ⟨rfl, rfl⟩ ⟨Nat.le_of_ble_eq_true rfl, Nat.le_of_ble_eq_true rfl⟩ hl.1 rfl (Nat.le_of_ble_eq_true rfl) ⟨Nat.zero_le _, Nat.zero_le _⟩ dX0_hits_28 (fun _ H locs hC => ?_)
    refine W.eq (g2 := F0 m 31 ls [.int (p_apart (d (93 + 4 * (ix k))) (d 3))]) rfl ?_
    refine lv_aload_n hx hb dX0_hits_31 rfl (lv_at hl 1 rfl) ?_
    refine fc_F (C := RX8) (x := ⟨"OwlEars$Strikes", "wide", "()I"⟩) (fx_at' (ci := 8) (q := (RX8, TX8, 3)) hX rfl).2 (As := []) (rest := [.int (p_apart (d (93 + 4 * (ix k))) (d 3))]) hx hb hml hown hts hX hC (m_X8_wide_2 (ix k) (vin_lt hk)) (lw4 q727 q730 q684 q119) q685 (hX.2.2.1.Fw (by decide) q729 q728 q732 q731 q583) (by decide +kernel) ⟨rfl, rfl⟩ ⟨Nat.le_of_ble_eq_true rfl, Nat.le_of_ble_eq_true rfl⟩ (fx_recv (g := 22) (i := (ix k)) (ci := 8) (q := (RX8, TX8, 3)) hX hC (cin (decide_eq_true (vin_lt hk))) rfl rfl) hl.1 rfl (Nat.le_of_ble_eq_true rfl) ⟨Nat.zero_le _, Nat.zero_le _⟩ dX0_hits_32 (fun _ H locs hC => ?_)
    refine W.eq (g2 := F0 m 37 ls [.int 1, .int (p_apart (d (93 + 4 * (ix k))) (d 3))]) rfl ?_
    refine lv_icmp_gt (tgt := 62) hx hb dX0_hits_37 (by decide) (fun c_16 => ?_) (fun c_16 => ?_)
    · refine lv_iconst (v := 0) hx hb dX0_hits_62 rfl ?_
      exact fr_z hx hb hr rfl hlocks hX hC () (congrArg (fun z => some (Value.int z)) (b2i_f (by simp [p_hits, p_wide, p_deep, qk, c_16]))) rfl dX0_hits_63
    · refine lv_aload_n hx hb dX0_hits_40 rfl (lv_at hl 2 rfl) ?_
      refine fg_get (C := RX0) (T := TX0) (N := 13) (ci := 1) (g := 5) (i := 0) (v := .ref (G.ad 0 0)) hx hb hown hts hX hC in_X0 rfl (cin rfl) rfl 3 (by decide) q425 (fun _ h => h) rfl dX0_hits_41 ?_
      refine fg_getN (C := RX4) (T := TX4) (N := 9) (ci := 0) (g := 0) (i := 0) (v := .ref (G.ad 0 1)) hx hb hown hts hX hC in_X4 rfl (cin rfl) rfl 0 (by decide) (hX.2.2.1.F q240) (fun _ h => h) rfl dX0_hits_44 ?_
      refine lv_iload_n hx hb dX0_hits_47 rfl (lv_at hl 0 rfl) ?_
      refine fg_iald (g := 0) (i := 1) (t0 := 0) (v := d (20 + ix (d 3))) hx hb hX hC (cin rfl) rfl rfl hw.mouse rfl dX0_hits_48 ?_
      refine lv_aload_n hx hb dX0_hits_49 rfl (lv_at hl 1 rfl) ?_
      refine fc_F (C := RX8) (x := ⟨"OwlEars$Strikes", "deep", "()I"⟩) (fx_at' (ci := 8) (q := (RX8, TX8, 3)) hX rfl).2 (As := []) (rest := [.int (d (20 + ix (d 3)))]) hx hb hml hown hts hX hC (m_X8_deep_2 (ix k) (vin_lt hk)) (lw4 q748 q751 q657 q119) q658 (hX.2.2.1.Fw (by decide) q750 q749 q753 q752 q583) (by decide +kernel) ⟨rfl, rfl⟩ ⟨Nat.le_of_ble_eq_true rfl, Nat.le_of_ble_eq_true rfl⟩ (fx_recv (g := 22) (i := (ix k)) (ci := 8) (q := (RX8, TX8, 3)) hX hC (cin (decide_eq_true (vin_lt hk))) rfl rfl) hl.1 rfl (Nat.le_of_ble_eq_true rfl) ⟨Nat.zero_le _, Nat.zero_le _⟩ dX0_hits_50 (fun _ H locs hC => ?_)
      refine W.eq (g2 := F0 m 55 ls [.int 6, .int (d (20 + ix (d 3)))]) rfl ?_
      refine lv_icmp_gt (tgt := 62) hx hb dX0_hits_55 (by decide) (fun c_18 => ?_) (fun c_18 => ?_)
      · refine lv_iconst (v := 0) hx hb dX0_hits_62 rfl ?_
        exact fr_z hx hb hr rfl hlocks hX hC () (congrArg (fun z => some (Value.int z)) (b2i_f (by simp [p_hits, p_wide, p_deep, qk, c_16, c_18]))) rfl dX0_hits_63
      · refine lv_iconst (v := 1) hx hb dX0_hits_58 rfl ?_
        refine lv_goto (tgt := 63) hx hb dX0_hits_59 (by decide) ?_
        exact fr_z hx hb hr rfl hlocks hX hC () (congrArg (fun z => some (Value.int z)) (b2i_t (by simp [p_hits, p_wide, p_deep, qk, c_16, c_18]))) rfl dX0_hits_63
  · refine lv_aload_n hx hb dX0_hits_0 rfl (lv_at hl 0 rfl) ?_
    refine lv_iload_n hx hb dX0_hits_1 rfl (lv_at hl 1 rfl) ?_
    refine fc_V (As := [.int k]) (rest := []) hx hb hml hown hts hX hC (m_X0_strikeOf_3 k hk qk) (lw_V q542 q544 qs5 q108 q545) hdV_X0_strikeOf ⟨rfl, rfl⟩ ⟨Nat.le_of_ble_eq_true rfl, Nat.le_of_ble_eq_true rfl⟩ (fx_recv (g := 5) (i := 0) (ci := 1) (q := (RX0, TX0, 13)) hX hC (cin rfl) rfl rfl) hl.1 rfl (Nat.le_of_ble_eq_true rfl) ⟨Nat.zero_le _, Nat.zero_le _⟩ dX0_hits_2 (fun _ H locs hC => ?_)
    refine W.eq (g2 := F0 m 5 ls [.ref (G.ad 23 (ix k))]) rfl ?_
    refine lv_astore_n (lv' := [(2, .ref (G.ad 23 (ix k))), (0, .ref (G.ad 5 0)), (1, .int k)]) hx hb dX0_hits_5 rfl hl (by decide) rfl (fun ls hl => ?_)
    refine lv_aload_n hx hb dX0_hits_6 rfl (lv_at hl 1 rfl) ?_
    refine fg_get (C := RX0) (T := TX0) (N := 13) (ci := 1) (g := 5) (i := 0) (v := .ref (G.ad 0 0)) hx hb hown hts hX hC in_X0 rfl (cin rfl) rfl 3 (by decide) q425 (fun _ h => h) rfl dX0_hits_7 ?_
    refine fg_getN (C := RX4) (T := TX4) (N := 9) (ci := 0) (g := 0) (i := 0) (v := .ref (G.ad 0 3)) hx hb hown hts hX hC in_X4 rfl (cin rfl) rfl 2 (by decide) (hX.2.2.1.F q246) (fun _ h => h) rfl dX0_hits_10 ?_
    refine lv_iconst (v := 0) hx hb dX0_hits_13 rfl ?_
    refine fg_iald (g := 0) (i := 3) (t0 := 0) (v := d 3) hx hb hX hC (cin rfl) rfl rfl (vin_b rfl) rfl dX0_hits_14 ?_
    refine lv_istore_n (lv' := [(3, .int (d 3)), (2, .ref (G.ad 23 (ix k))), (0, .ref (G.ad 5 0)), (1, .int k)]) hx hb dX0_hits_15 rfl hl (by decide) rfl (fun ls hl => ?_)
    refine lv_aload_n hx hb dX0_hits_16 rfl (lv_at hl 2 rfl) ?_
    refine fg_get (C := RX0) (T := TX0) (N := 13) (ci := 1) (g := 5) (i := 0) (v := .ref (G.ad 0 0)) hx hb hown hts hX hC in_X0 rfl (cin rfl) rfl 3 (by decide) q425 (fun _ h => h) rfl dX0_hits_17 ?_
    refine fg_getN (C := RX4) (T := TX4) (N := 9) (ci := 0) (g := 0) (i := 0) (v := .ref (G.ad 0 5)) hx hb hown hts hX hC in_X4 rfl (cin rfl) rfl 5 (by decide) (hX.2.2.1.F q257) (fun _ h => h) rfl dX0_hits_20 ?_
    refine lv_iconst (v := 1) hx hb dX0_hits_23 rfl ?_
    refine fg_ald (g := 0) (i := 5) (t0 := 1) (ty := .array .int) (v := .ref (G.ad 0 7)) hx hb hX hC (cin rfl) rfl rfl rfl (vin_b rfl) rfl dX0_hits_24 ?_
    refine lv_iload_n hx hb dX0_hits_25 rfl (lv_at hl 3 rfl) ?_
    refine fg_iald (g := 0) (i := 7) (t0 := 0) (v := d (93 + 4 * (ix k))) hx hb hX hC (cin rfl) rfl rfl hk rfl dX0_hits_26 ?_
    refine lv_iload_n hx hb dX0_hits_27 rfl (lv_at hl 0 rfl) ?_
    refine fc_S (As := [.int (d (93 + 4 * (ix k))), .int (d 3)]) (rest := []) hx hb hml hown hts hX hC (m_X0_apart (d (93 + 4 * (ix k))) (d 3)) (lw_S q725 q497 q108 q498) hdS_X0_apart ⟨rfl, rfl⟩ ⟨Nat.le_of_ble_eq_true rfl, Nat.le_of_ble_eq_true rfl⟩ hl.1 rfl (Nat.le_of_ble_eq_true rfl) ⟨Nat.zero_le _, Nat.zero_le _⟩ dX0_hits_28 (fun _ H locs hC => ?_)
    refine W.eq (g2 := F0 m 31 ls [.int (p_apart (d (93 + 4 * (ix k))) (d 3))]) rfl ?_
    refine lv_aload_n hx hb dX0_hits_31 rfl (lv_at hl 1 rfl) ?_
    refine fc_F (C := RX9) (x := ⟨"OwlEars$Strikes", "wide", "()I"⟩) (fx_at' (ci := 9) (q := (RX9, TX9, 4)) hX rfl).2 (As := []) (rest := [.int (p_apart (d (93 + 4 * (ix k))) (d 3))]) hx hb hml hown hts hX hC (m_X8_wide_3 (ix k) (vin_lt hk)) (lw4 q727 q736 q684 q119) q685 (hX.2.2.1.Fw (by decide) q729 q728 q732 q737 q620) (by decide +kernel) ⟨rfl, rfl⟩ ⟨Nat.le_of_ble_eq_true rfl, Nat.le_of_ble_eq_true rfl⟩ (fx_recv (g := 23) (i := (ix k)) (ci := 9) (q := (RX9, TX9, 4)) hX hC (cin (decide_eq_true (vin_lt hk))) rfl rfl) hl.1 rfl (Nat.le_of_ble_eq_true rfl) ⟨Nat.zero_le _, Nat.zero_le _⟩ dX0_hits_32 (fun _ H locs hC => ?_)
    refine W.eq (g2 := F0 m 37 ls [.int 1, .int (p_apart (d (93 + 4 * (ix k))) (d 3))]) rfl ?_
    refine lv_icmp_gt (tgt := 62) hx hb dX0_hits_37 (by decide) (fun c_22 => ?_) (fun c_22 => ?_)
    · refine lv_iconst (v := 0) hx hb dX0_hits_62 rfl ?_
      exact fr_z hx hb hr rfl hlocks hX hC () (congrArg (fun z => some (Value.int z)) (b2i_f (by simp [p_hits, p_wide, p_deep, qk, c_22]))) rfl dX0_hits_63
    · refine lv_aload_n hx hb dX0_hits_40 rfl (lv_at hl 2 rfl) ?_
      refine fg_get (C := RX0) (T := TX0) (N := 13) (ci := 1) (g := 5) (i := 0) (v := .ref (G.ad 0 0)) hx hb hown hts hX hC in_X0 rfl (cin rfl) rfl 3 (by decide) q425 (fun _ h => h) rfl dX0_hits_41 ?_
      refine fg_getN (C := RX4) (T := TX4) (N := 9) (ci := 0) (g := 0) (i := 0) (v := .ref (G.ad 0 1)) hx hb hown hts hX hC in_X4 rfl (cin rfl) rfl 0 (by decide) (hX.2.2.1.F q240) (fun _ h => h) rfl dX0_hits_44 ?_
      refine lv_iload_n hx hb dX0_hits_47 rfl (lv_at hl 0 rfl) ?_
      refine fg_iald (g := 0) (i := 1) (t0 := 0) (v := d (20 + ix (d 3))) hx hb hX hC (cin rfl) rfl rfl hw.mouse rfl dX0_hits_48 ?_
      refine lv_aload_n hx hb dX0_hits_49 rfl (lv_at hl 1 rfl) ?_
      refine fc_F (C := RX9) (x := ⟨"OwlEars$Strikes", "deep", "()I"⟩) (fx_at' (ci := 9) (q := (RX9, TX9, 4)) hX rfl).2 (As := []) (rest := [.int (d (20 + ix (d 3)))]) hx hb hml hown hts hX hC (m_X8_deep_3 (ix k) (vin_lt hk)) (lw4 q748 q757 q657 q119) q658 (hX.2.2.1.Fw (by decide) q750 q749 q753 q758 q620) (by decide +kernel) ⟨rfl, rfl⟩ ⟨Nat.le_of_ble_eq_true rfl, Nat.le_of_ble_eq_true rfl⟩ (fx_recv (g := 23) (i := (ix k)) (ci := 9) (q := (RX9, TX9, 4)) hX hC (cin (decide_eq_true (vin_lt hk))) rfl rfl) hl.1 rfl (Nat.le_of_ble_eq_true rfl) ⟨Nat.zero_le _, Nat.zero_le _⟩ dX0_hits_50 (fun _ H locs hC => ?_)
      refine W.eq (g2 := F0 m 55 ls [.int 6, .int (d (20 + ix (d 3)))]) rfl ?_
      refine lv_icmp_gt (tgt := 62) hx hb dX0_hits_55 (by decide) (fun c_24 => ?_) (fun c_24 => ?_)
      · refine lv_iconst (v := 0) hx hb dX0_hits_62 rfl ?_
        exact fr_z hx hb hr rfl hlocks hX hC () (congrArg (fun z => some (Value.int z)) (b2i_f (by simp [p_hits, p_wide, p_deep, qk, c_22, c_24]))) rfl dX0_hits_63
      · refine lv_iconst (v := 1) hx hb dX0_hits_58 rfl ?_
        refine lv_goto (tgt := 63) hx hb dX0_hits_59 (by decide) ?_
        exact fr_z hx hb hr rfl hlocks hX hC () (congrArg (fun z => some (Value.int z)) (b2i_t (by simp [p_hits, p_wide, p_deep, qk, c_22, c_24]))) rfl dX0_hits_63
  · refine lv_aload_n hx hb dX0_hits_0 rfl (lv_at hl 0 rfl) ?_
    refine lv_iload_n hx hb dX0_hits_1 rfl (lv_at hl 1 rfl) ?_
    refine fc_V (As := [.int k]) (rest := []) hx hb hml hown hts hX hC (m_X0_strikeOf_4 k hk qk) (lw_V q542 q544 qs5 q108 q545) hdV_X0_strikeOf ⟨rfl, rfl⟩ ⟨Nat.le_of_ble_eq_true rfl, Nat.le_of_ble_eq_true rfl⟩ (fx_recv (g := 5) (i := 0) (ci := 1) (q := (RX0, TX0, 13)) hX hC (cin rfl) rfl rfl) hl.1 rfl (Nat.le_of_ble_eq_true rfl) ⟨Nat.zero_le _, Nat.zero_le _⟩ dX0_hits_2 (fun _ H locs hC => ?_)
    refine W.eq (g2 := F0 m 5 ls [.ref (G.ad 24 (ix k))]) rfl ?_
    refine lv_astore_n (lv' := [(2, .ref (G.ad 24 (ix k))), (0, .ref (G.ad 5 0)), (1, .int k)]) hx hb dX0_hits_5 rfl hl (by decide) rfl (fun ls hl => ?_)
    refine lv_aload_n hx hb dX0_hits_6 rfl (lv_at hl 1 rfl) ?_
    refine fg_get (C := RX0) (T := TX0) (N := 13) (ci := 1) (g := 5) (i := 0) (v := .ref (G.ad 0 0)) hx hb hown hts hX hC in_X0 rfl (cin rfl) rfl 3 (by decide) q425 (fun _ h => h) rfl dX0_hits_7 ?_
    refine fg_getN (C := RX4) (T := TX4) (N := 9) (ci := 0) (g := 0) (i := 0) (v := .ref (G.ad 0 3)) hx hb hown hts hX hC in_X4 rfl (cin rfl) rfl 2 (by decide) (hX.2.2.1.F q246) (fun _ h => h) rfl dX0_hits_10 ?_
    refine lv_iconst (v := 0) hx hb dX0_hits_13 rfl ?_
    refine fg_iald (g := 0) (i := 3) (t0 := 0) (v := d 3) hx hb hX hC (cin rfl) rfl rfl (vin_b rfl) rfl dX0_hits_14 ?_
    refine lv_istore_n (lv' := [(3, .int (d 3)), (2, .ref (G.ad 24 (ix k))), (0, .ref (G.ad 5 0)), (1, .int k)]) hx hb dX0_hits_15 rfl hl (by decide) rfl (fun ls hl => ?_)
    refine lv_aload_n hx hb dX0_hits_16 rfl (lv_at hl 2 rfl) ?_
    refine fg_get (C := RX0) (T := TX0) (N := 13) (ci := 1) (g := 5) (i := 0) (v := .ref (G.ad 0 0)) hx hb hown hts hX hC in_X0 rfl (cin rfl) rfl 3 (by decide) q425 (fun _ h => h) rfl dX0_hits_17 ?_
    refine fg_getN (C := RX4) (T := TX4) (N := 9) (ci := 0) (g := 0) (i := 0) (v := .ref (G.ad 0 5)) hx hb hown hts hX hC in_X4 rfl (cin rfl) rfl 5 (by decide) (hX.2.2.1.F q257) (fun _ h => h) rfl dX0_hits_20 ?_
    refine lv_iconst (v := 1) hx hb dX0_hits_23 rfl ?_
    refine fg_ald (g := 0) (i := 5) (t0 := 1) (ty := .array .int) (v := .ref (G.ad 0 7)) hx hb hX hC (cin rfl) rfl rfl rfl (vin_b rfl) rfl dX0_hits_24 ?_
    refine lv_iload_n hx hb dX0_hits_25 rfl (lv_at hl 3 rfl) ?_
    refine fg_iald (g := 0) (i := 7) (t0 := 0) (v := d (93 + 4 * (ix k))) hx hb hX hC (cin rfl) rfl rfl hk rfl dX0_hits_26 ?_
    refine lv_iload_n hx hb dX0_hits_27 rfl (lv_at hl 0 rfl) ?_
    refine fc_S (As := [.int (d (93 + 4 * (ix k))), .int (d 3)]) (rest := []) hx hb hml hown hts hX hC (m_X0_apart (d (93 + 4 * (ix k))) (d 3)) (lw_S q725 q497 q108 q498) hdS_X0_apart ⟨rfl, rfl⟩ ⟨Nat.le_of_ble_eq_true rfl, Nat.le_of_ble_eq_true rfl⟩ hl.1 rfl (Nat.le_of_ble_eq_true rfl) ⟨Nat.zero_le _, Nat.zero_le _⟩ dX0_hits_28 (fun _ H locs hC => ?_)
    refine W.eq (g2 := F0 m 31 ls [.int (p_apart (d (93 + 4 * (ix k))) (d 3))]) rfl ?_
    refine lv_aload_n hx hb dX0_hits_31 rfl (lv_at hl 1 rfl) ?_
    refine fc_F (C := RX10) (x := ⟨"OwlEars$Strikes", "wide", "()I"⟩) (fx_at' (ci := 10) (q := (RX10, TX10, 5)) hX rfl).2 (As := []) (rest := [.int (p_apart (d (93 + 4 * (ix k))) (d 3))]) hx hb hml hown hts hX hC (m_X8_wide_4 (ix k) (vin_lt hk)) (lw4 q727 q745 q684 q119) q685 (hX.2.2.1.Fw (by decide) q729 q728 q732 q746 q641) (by decide +kernel) ⟨rfl, rfl⟩ ⟨Nat.le_of_ble_eq_true rfl, Nat.le_of_ble_eq_true rfl⟩ (fx_recv (g := 24) (i := (ix k)) (ci := 10) (q := (RX10, TX10, 5)) hX hC (cin (decide_eq_true (vin_lt hk))) rfl rfl) hl.1 rfl (Nat.le_of_ble_eq_true rfl) ⟨Nat.zero_le _, Nat.zero_le _⟩ dX0_hits_32 (fun _ H locs hC => ?_)
    refine W.eq (g2 := F0 m 37 ls [.int 1, .int (p_apart (d (93 + 4 * (ix k))) (d 3))]) rfl ?_
    refine lv_icmp_gt (tgt := 62) hx hb dX0_hits_37 (by decide) (fun c_28 => ?_) (fun c_28 => ?_)
    · refine lv_iconst (v := 0) hx hb dX0_hits_62 rfl ?_
      exact fr_z hx hb hr rfl hlocks hX hC () (congrArg (fun z => some (Value.int z)) (b2i_f (by simp [p_hits, p_wide, p_deep, qk, c_28]))) rfl dX0_hits_63
    · refine lv_aload_n hx hb dX0_hits_40 rfl (lv_at hl 2 rfl) ?_
      refine fg_get (C := RX0) (T := TX0) (N := 13) (ci := 1) (g := 5) (i := 0) (v := .ref (G.ad 0 0)) hx hb hown hts hX hC in_X0 rfl (cin rfl) rfl 3 (by decide) q425 (fun _ h => h) rfl dX0_hits_41 ?_
      refine fg_getN (C := RX4) (T := TX4) (N := 9) (ci := 0) (g := 0) (i := 0) (v := .ref (G.ad 0 1)) hx hb hown hts hX hC in_X4 rfl (cin rfl) rfl 0 (by decide) (hX.2.2.1.F q240) (fun _ h => h) rfl dX0_hits_44 ?_
      refine lv_iload_n hx hb dX0_hits_47 rfl (lv_at hl 0 rfl) ?_
      refine fg_iald (g := 0) (i := 1) (t0 := 0) (v := d (20 + ix (d 3))) hx hb hX hC (cin rfl) rfl rfl hw.mouse rfl dX0_hits_48 ?_
      refine lv_aload_n hx hb dX0_hits_49 rfl (lv_at hl 1 rfl) ?_
      refine fc_F (C := RX10) (x := ⟨"OwlEars$Strikes", "deep", "()I"⟩) (fx_at' (ci := 10) (q := (RX10, TX10, 5)) hX rfl).2 (As := []) (rest := [.int (d (20 + ix (d 3)))]) hx hb hml hown hts hX hC (m_X10_deep_4 (ix k) (vin_lt hk)) (lw4 q748 q768 q673 q121) q674 (hX.2.2.1.Fw (by decide) q750 q749 q770 q769 q641) (by decide +kernel) ⟨rfl, rfl⟩ ⟨Nat.le_of_ble_eq_true rfl, Nat.le_of_ble_eq_true rfl⟩ (fx_recv (g := 24) (i := (ix k)) (ci := 10) (q := (RX10, TX10, 5)) hX hC (cin (decide_eq_true (vin_lt hk))) rfl rfl) hl.1 rfl (Nat.le_of_ble_eq_true rfl) ⟨Nat.zero_le _, Nat.zero_le _⟩ dX0_hits_50 (fun _ H locs hC => ?_)
      refine W.eq (g2 := F0 m 55 ls [.int (6 + d (94 + 4 * (ix k))), .int (d (20 + ix (d 3)))]) rfl ?_
      refine lv_icmp_gt (tgt := 62) hx hb dX0_hits_55 (by decide) (fun c_30 => ?_) (fun c_30 => ?_)
      · refine lv_iconst (v := 0) hx hb dX0_hits_62 rfl ?_
        exact fr_z hx hb hr rfl hlocks hX hC () (congrArg (fun z => some (Value.int z)) (b2i_f (by simp [p_hits, p_wide, p_deep, qk, c_28, c_30]))) rfl dX0_hits_63
      · refine lv_iconst (v := 1) hx hb dX0_hits_58 rfl ?_
        refine lv_goto (tgt := 63) hx hb dX0_hits_59 (by decide) ?_
        exact fr_z hx hb hr rfl hlocks hX hC () (congrArg (fun z => some (Value.int z)) (b2i_t (by simp [p_hits, p_wide, p_deep, qk, c_28, c_30]))) rfl dX0_hits_63
  · refine lv_aload_n hx hb dX0_hits_0 rfl (lv_at hl 0 rfl) ?_
    refine lv_iload_n hx hb dX0_hits_1 rfl (lv_at hl 1 rfl) ?_
    refine fc_V (As := [.int k]) (rest := []) hx hb hml hown hts hX hC (m_X0_strikeOf_5 k hk qk) (lw_V q542 q544 qs5 q108 q545) hdV_X0_strikeOf ⟨rfl, rfl⟩ ⟨Nat.le_of_ble_eq_true rfl, Nat.le_of_ble_eq_true rfl⟩ (fx_recv (g := 5) (i := 0) (ci := 1) (q := (RX0, TX0, 13)) hX hC (cin rfl) rfl rfl) hl.1 rfl (Nat.le_of_ble_eq_true rfl) ⟨Nat.zero_le _, Nat.zero_le _⟩ dX0_hits_2 (fun _ H locs hC => ?_)
    refine W.eq (g2 := F0 m 5 ls [.ref (G.ad 25 (ix k))]) rfl ?_
    refine lv_astore_n (lv' := [(2, .ref (G.ad 25 (ix k))), (0, .ref (G.ad 5 0)), (1, .int k)]) hx hb dX0_hits_5 rfl hl (by decide) rfl (fun ls hl => ?_)
    refine lv_aload_n hx hb dX0_hits_6 rfl (lv_at hl 1 rfl) ?_
    refine fg_get (C := RX0) (T := TX0) (N := 13) (ci := 1) (g := 5) (i := 0) (v := .ref (G.ad 0 0)) hx hb hown hts hX hC in_X0 rfl (cin rfl) rfl 3 (by decide) q425 (fun _ h => h) rfl dX0_hits_7 ?_
    refine fg_getN (C := RX4) (T := TX4) (N := 9) (ci := 0) (g := 0) (i := 0) (v := .ref (G.ad 0 3)) hx hb hown hts hX hC in_X4 rfl (cin rfl) rfl 2 (by decide) (hX.2.2.1.F q246) (fun _ h => h) rfl dX0_hits_10 ?_
    refine lv_iconst (v := 0) hx hb dX0_hits_13 rfl ?_
    refine fg_iald (g := 0) (i := 3) (t0 := 0) (v := d 3) hx hb hX hC (cin rfl) rfl rfl (vin_b rfl) rfl dX0_hits_14 ?_
    refine lv_istore_n (lv' := [(3, .int (d 3)), (2, .ref (G.ad 25 (ix k))), (0, .ref (G.ad 5 0)), (1, .int k)]) hx hb dX0_hits_15 rfl hl (by decide) rfl (fun ls hl => ?_)
    refine lv_aload_n hx hb dX0_hits_16 rfl (lv_at hl 2 rfl) ?_
    refine fg_get (C := RX0) (T := TX0) (N := 13) (ci := 1) (g := 5) (i := 0) (v := .ref (G.ad 0 0)) hx hb hown hts hX hC in_X0 rfl (cin rfl) rfl 3 (by decide) q425 (fun _ h => h) rfl dX0_hits_17 ?_
    refine fg_getN (C := RX4) (T := TX4) (N := 9) (ci := 0) (g := 0) (i := 0) (v := .ref (G.ad 0 5)) hx hb hown hts hX hC in_X4 rfl (cin rfl) rfl 5 (by decide) (hX.2.2.1.F q257) (fun _ h => h) rfl dX0_hits_20 ?_
    refine lv_iconst (v := 1) hx hb dX0_hits_23 rfl ?_
    refine fg_ald (g := 0) (i := 5) (t0 := 1) (ty := .array .int) (v := .ref (G.ad 0 7)) hx hb hX hC (cin rfl) rfl rfl rfl (vin_b rfl) rfl dX0_hits_24 ?_
    refine lv_iload_n hx hb dX0_hits_25 rfl (lv_at hl 3 rfl) ?_
    refine fg_iald (g := 0) (i := 7) (t0 := 0) (v := d (93 + 4 * (ix k))) hx hb hX hC (cin rfl) rfl rfl hk rfl dX0_hits_26 ?_
    refine lv_iload_n hx hb dX0_hits_27 rfl (lv_at hl 0 rfl) ?_
    refine fc_S (As := [.int (d (93 + 4 * (ix k))), .int (d 3)]) (rest := []) hx hb hml hown hts hX hC (m_X0_apart (d (93 + 4 * (ix k))) (d 3)) (lw_S q725 q497 q108 q498) hdS_X0_apart ⟨rfl, rfl⟩ ⟨Nat.le_of_ble_eq_true rfl, Nat.le_of_ble_eq_true rfl⟩ hl.1 rfl (Nat.le_of_ble_eq_true rfl) ⟨Nat.zero_le _, Nat.zero_le _⟩ dX0_hits_28 (fun _ H locs hC => ?_)
    refine W.eq (g2 := F0 m 31 ls [.int (p_apart (d (93 + 4 * (ix k))) (d 3))]) rfl ?_
    refine lv_aload_n hx hb dX0_hits_31 rfl (lv_at hl 1 rfl) ?_
    refine fc_F (C := RX11) (x := ⟨"OwlEars$Strikes", "wide", "()I"⟩) (fx_at' (ci := 11) (q := (RX11, TX11, 3)) hX rfl).2 (As := []) (rest := [.int (p_apart (d (93 + 4 * (ix k))) (d 3))]) hx hb hml hown hts hX hC (m_X11_wide_5 (ix k) (vin_lt hk)) (lw4 q727 q738 q690 q122) q691 (hX.2.2.1.Fw (by decide) q729 q728 q740 q739 q627) (by decide +kernel) ⟨rfl, rfl⟩ ⟨Nat.le_of_ble_eq_true rfl, Nat.le_of_ble_eq_true rfl⟩ (fx_recv (g := 25) (i := (ix k)) (ci := 11) (q := (RX11, TX11, 3)) hX hC (cin (decide_eq_true (vin_lt hk))) rfl rfl) hl.1 rfl (Nat.le_of_ble_eq_true rfl) ⟨Nat.zero_le _, Nat.zero_le _⟩ dX0_hits_32 (fun _ H locs hC => ?_)
    refine W.eq (g2 := F0 m 37 ls [.int 2, .int (p_apart (d (93 + 4 * (ix k))) (d 3))]) rfl ?_
    refine lv_icmp_gt (tgt := 62) hx hb dX0_hits_37 (by decide) (fun c_34 => ?_) (fun c_34 => ?_)
    · refine lv_iconst (v := 0) hx hb dX0_hits_62 rfl ?_
      exact fr_z hx hb hr rfl hlocks hX hC () (congrArg (fun z => some (Value.int z)) (b2i_f (by simp [p_hits, p_wide, p_deep, qk, c_34]))) rfl dX0_hits_63
    · refine lv_aload_n hx hb dX0_hits_40 rfl (lv_at hl 2 rfl) ?_
      refine fg_get (C := RX0) (T := TX0) (N := 13) (ci := 1) (g := 5) (i := 0) (v := .ref (G.ad 0 0)) hx hb hown hts hX hC in_X0 rfl (cin rfl) rfl 3 (by decide) q425 (fun _ h => h) rfl dX0_hits_41 ?_
      refine fg_getN (C := RX4) (T := TX4) (N := 9) (ci := 0) (g := 0) (i := 0) (v := .ref (G.ad 0 1)) hx hb hown hts hX hC in_X4 rfl (cin rfl) rfl 0 (by decide) (hX.2.2.1.F q240) (fun _ h => h) rfl dX0_hits_44 ?_
      refine lv_iload_n hx hb dX0_hits_47 rfl (lv_at hl 0 rfl) ?_
      refine fg_iald (g := 0) (i := 1) (t0 := 0) (v := d (20 + ix (d 3))) hx hb hX hC (cin rfl) rfl rfl hw.mouse rfl dX0_hits_48 ?_
      refine lv_aload_n hx hb dX0_hits_49 rfl (lv_at hl 1 rfl) ?_
      refine fc_F (C := RX11) (x := ⟨"OwlEars$Strikes", "deep", "()I"⟩) (fx_at' (ci := 11) (q := (RX11, TX11, 3)) hX rfl).2 (As := []) (rest := [.int (d (20 + ix (d 3)))]) hx hb hml hown hts hX hC (m_X11_deep_5 (ix k) (vin_lt hk)) (lw4 q748 q759 q669 q122) q670 (hX.2.2.1.Fw (by decide) q750 q749 q761 q760 q627) (by decide +kernel) ⟨rfl, rfl⟩ ⟨Nat.le_of_ble_eq_true rfl, Nat.le_of_ble_eq_true rfl⟩ (fx_recv (g := 25) (i := (ix k)) (ci := 11) (q := (RX11, TX11, 3)) hX hC (cin (decide_eq_true (vin_lt hk))) rfl rfl) hl.1 rfl (Nat.le_of_ble_eq_true rfl) ⟨Nat.zero_le _, Nat.zero_le _⟩ dX0_hits_50 (fun _ H locs hC => ?_)
      refine W.eq (g2 := F0 m 55 ls [.int 0, .int (d (20 + ix (d 3)))]) rfl ?_
      refine lv_icmp_gt (tgt := 62) hx hb dX0_hits_55 (by decide) (fun c_36 => ?_) (fun c_36 => ?_)
      · refine lv_iconst (v := 0) hx hb dX0_hits_62 rfl ?_
        exact fr_z hx hb hr rfl hlocks hX hC () (congrArg (fun z => some (Value.int z)) (b2i_f (by simp [p_hits, p_wide, p_deep, qk, c_34, c_36]))) rfl dX0_hits_63
      · refine lv_iconst (v := 1) hx hb dX0_hits_58 rfl ?_
        refine lv_goto (tgt := 63) hx hb dX0_hits_59 (by decide) ?_
        exact fr_z hx hb hr rfl hlocks hX hC () (congrArg (fun z => some (Value.int z)) (b2i_t (by simp [p_hits, p_wide, p_deep, qk, c_34, c_36]))) rfl dX0_hits_63
  · refine lv_aload_n hx hb dX0_hits_0 rfl (lv_at hl 0 rfl) ?_
    refine lv_iload_n hx hb dX0_hits_1 rfl (lv_at hl 1 rfl) ?_
    refine fc_V (As := [.int k]) (rest := []) hx hb hml hown hts hX hC (m_X0_strikeOf_6 k hk qk) (lw_V q542 q544 qs5 q108 q545) hdV_X0_strikeOf ⟨rfl, rfl⟩ ⟨Nat.le_of_ble_eq_true rfl, Nat.le_of_ble_eq_true rfl⟩ (fx_recv (g := 5) (i := 0) (ci := 1) (q := (RX0, TX0, 13)) hX hC (cin rfl) rfl rfl) hl.1 rfl (Nat.le_of_ble_eq_true rfl) ⟨Nat.zero_le _, Nat.zero_le _⟩ dX0_hits_2 (fun _ H locs hC => ?_)
    refine W.eq (g2 := F0 m 5 ls [.ref (G.ad 26 (ix k))]) rfl ?_
    refine lv_astore_n (lv' := [(2, .ref (G.ad 26 (ix k))), (0, .ref (G.ad 5 0)), (1, .int k)]) hx hb dX0_hits_5 rfl hl (by decide) rfl (fun ls hl => ?_)
    refine lv_aload_n hx hb dX0_hits_6 rfl (lv_at hl 1 rfl) ?_
    refine fg_get (C := RX0) (T := TX0) (N := 13) (ci := 1) (g := 5) (i := 0) (v := .ref (G.ad 0 0)) hx hb hown hts hX hC in_X0 rfl (cin rfl) rfl 3 (by decide) q425 (fun _ h => h) rfl dX0_hits_7 ?_
    refine fg_getN (C := RX4) (T := TX4) (N := 9) (ci := 0) (g := 0) (i := 0) (v := .ref (G.ad 0 3)) hx hb hown hts hX hC in_X4 rfl (cin rfl) rfl 2 (by decide) (hX.2.2.1.F q246) (fun _ h => h) rfl dX0_hits_10 ?_
    refine lv_iconst (v := 0) hx hb dX0_hits_13 rfl ?_
    refine fg_iald (g := 0) (i := 3) (t0 := 0) (v := d 3) hx hb hX hC (cin rfl) rfl rfl (vin_b rfl) rfl dX0_hits_14 ?_
    refine lv_istore_n (lv' := [(3, .int (d 3)), (2, .ref (G.ad 26 (ix k))), (0, .ref (G.ad 5 0)), (1, .int k)]) hx hb dX0_hits_15 rfl hl (by decide) rfl (fun ls hl => ?_)
    refine lv_aload_n hx hb dX0_hits_16 rfl (lv_at hl 2 rfl) ?_
    refine fg_get (C := RX0) (T := TX0) (N := 13) (ci := 1) (g := 5) (i := 0) (v := .ref (G.ad 0 0)) hx hb hown hts hX hC in_X0 rfl (cin rfl) rfl 3 (by decide) q425 (fun _ h => h) rfl dX0_hits_17 ?_
    refine fg_getN (C := RX4) (T := TX4) (N := 9) (ci := 0) (g := 0) (i := 0) (v := .ref (G.ad 0 5)) hx hb hown hts hX hC in_X4 rfl (cin rfl) rfl 5 (by decide) (hX.2.2.1.F q257) (fun _ h => h) rfl dX0_hits_20 ?_
    refine lv_iconst (v := 1) hx hb dX0_hits_23 rfl ?_
    refine fg_ald (g := 0) (i := 5) (t0 := 1) (ty := .array .int) (v := .ref (G.ad 0 7)) hx hb hX hC (cin rfl) rfl rfl rfl (vin_b rfl) rfl dX0_hits_24 ?_
    refine lv_iload_n hx hb dX0_hits_25 rfl (lv_at hl 3 rfl) ?_
    refine fg_iald (g := 0) (i := 7) (t0 := 0) (v := d (93 + 4 * (ix k))) hx hb hX hC (cin rfl) rfl rfl hk rfl dX0_hits_26 ?_
    refine lv_iload_n hx hb dX0_hits_27 rfl (lv_at hl 0 rfl) ?_
    refine fc_S (As := [.int (d (93 + 4 * (ix k))), .int (d 3)]) (rest := []) hx hb hml hown hts hX hC (m_X0_apart (d (93 + 4 * (ix k))) (d 3)) (lw_S q725 q497 q108 q498) hdS_X0_apart ⟨rfl, rfl⟩ ⟨Nat.le_of_ble_eq_true rfl, Nat.le_of_ble_eq_true rfl⟩ hl.1 rfl (Nat.le_of_ble_eq_true rfl) ⟨Nat.zero_le _, Nat.zero_le _⟩ dX0_hits_28 (fun _ H locs hC => ?_)
    refine W.eq (g2 := F0 m 31 ls [.int (p_apart (d (93 + 4 * (ix k))) (d 3))]) rfl ?_
    refine lv_aload_n hx hb dX0_hits_31 rfl (lv_at hl 1 rfl) ?_
    refine fc_F (C := RX12) (x := ⟨"OwlEars$Strikes", "wide", "()I"⟩) (fx_at' (ci := 12) (q := (RX12, TX12, 4)) hX rfl).2 (As := []) (rest := [.int (p_apart (d (93 + 4 * (ix k))) (d 3))]) hx hb hml hown hts hX hC (m_X6_wide_6 (ix k) (vin_lt hk)) (lw4 q727 q733 q680 q117) q695 (hX.2.2.1.Fw (by decide) q729 q728 q735 q734 q604) (by decide +kernel) ⟨rfl, rfl⟩ ⟨Nat.le_of_ble_eq_true rfl, Nat.le_of_ble_eq_true rfl⟩ (fx_recv (g := 26) (i := (ix k)) (ci := 12) (q := (RX12, TX12, 4)) hX hC (cin (decide_eq_true (vin_lt hk))) rfl rfl) hl.1 rfl (Nat.le_of_ble_eq_true rfl) ⟨Nat.zero_le _, Nat.zero_le _⟩ dX0_hits_32 (fun _ H locs hC => ?_)
    refine W.eq (g2 := F0 m 37 ls [.int 0, .int (p_apart (d (93 + 4 * (ix k))) (d 3))]) rfl ?_
    refine lv_icmp_gt (tgt := 62) hx hb dX0_hits_37 (by decide) (fun c_40 => ?_) (fun c_40 => ?_)
    · refine lv_iconst (v := 0) hx hb dX0_hits_62 rfl ?_
      exact fr_z hx hb hr rfl hlocks hX hC () (congrArg (fun z => some (Value.int z)) (b2i_f (by simp [p_hits, p_wide, p_deep, qk, c_40]))) rfl dX0_hits_63
    · refine lv_aload_n hx hb dX0_hits_40 rfl (lv_at hl 2 rfl) ?_
      refine fg_get (C := RX0) (T := TX0) (N := 13) (ci := 1) (g := 5) (i := 0) (v := .ref (G.ad 0 0)) hx hb hown hts hX hC in_X0 rfl (cin rfl) rfl 3 (by decide) q425 (fun _ h => h) rfl dX0_hits_41 ?_
      refine fg_getN (C := RX4) (T := TX4) (N := 9) (ci := 0) (g := 0) (i := 0) (v := .ref (G.ad 0 1)) hx hb hown hts hX hC in_X4 rfl (cin rfl) rfl 0 (by decide) (hX.2.2.1.F q240) (fun _ h => h) rfl dX0_hits_44 ?_
      refine lv_iload_n hx hb dX0_hits_47 rfl (lv_at hl 0 rfl) ?_
      refine fg_iald (g := 0) (i := 1) (t0 := 0) (v := d (20 + ix (d 3))) hx hb hX hC (cin rfl) rfl rfl hw.mouse rfl dX0_hits_48 ?_
      refine lv_aload_n hx hb dX0_hits_49 rfl (lv_at hl 1 rfl) ?_
      refine fc_F (C := RX12) (x := ⟨"OwlEars$Strikes", "deep", "()I"⟩) (fx_at' (ci := 12) (q := (RX12, TX12, 4)) hX rfl).2 (As := []) (rest := [.int (d (20 + ix (d 3)))]) hx hb hml hown hts hX hC (m_X12_deep_6 (ix k) (vin_lt hk)) (lw4 q748 q754 q661 q123) q662 (hX.2.2.1.Fw (by decide) q750 q749 q756 q755 q604) (by decide +kernel) ⟨rfl, rfl⟩ ⟨Nat.le_of_ble_eq_true rfl, Nat.le_of_ble_eq_true rfl⟩ (fx_recv (g := 26) (i := (ix k)) (ci := 12) (q := (RX12, TX12, 4)) hX hC (cin (decide_eq_true (vin_lt hk))) rfl rfl) hl.1 rfl (Nat.le_of_ble_eq_true rfl) ⟨Nat.zero_le _, Nat.zero_le _⟩ dX0_hits_50 (fun _ H locs hC => ?_)
      refine W.eq (g2 := F0 m 55 ls [.int 6, .int (d (20 + ix (d 3)))]) rfl ?_
      refine lv_icmp_gt (tgt := 62) hx hb dX0_hits_55 (by decide) (fun c_42 => ?_) (fun c_42 => ?_)
      · refine lv_iconst (v := 0) hx hb dX0_hits_62 rfl ?_
        exact fr_z hx hb hr rfl hlocks hX hC () (congrArg (fun z => some (Value.int z)) (b2i_f (by simp [p_hits, p_wide, p_deep, qk, c_40, c_42]))) rfl dX0_hits_63
      · refine lv_iconst (v := 1) hx hb dX0_hits_58 rfl ?_
        refine lv_goto (tgt := 63) hx hb dX0_hits_59 (by decide) ?_
        exact fr_z hx hb hr rfl hlocks hX hC () (congrArg (fun z => some (Value.int z)) (b2i_t (by simp [p_hits, p_wide, p_deep, qk, c_40, c_42]))) rfl dX0_hits_63
