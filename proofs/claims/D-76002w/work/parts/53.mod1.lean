theorem hdS_X13_within : yX13_within.cls ≠ "java/lang/invoke/MethodHandle" ∧ yX13_within.cls ≠ "java/lang/invoke/VarHandle" ∧ (parseMethodDescriptor yX13_within.desc).map (fun d => d.parameters.length) = some 3 := by decide +kernel
theorem hdS_X13_isKind : yX13_isKind.cls ≠ "java/lang/invoke/MethodHandle" ∧ yX13_isKind.cls ≠ "java/lang/invoke/VarHandle" ∧ (parseMethodDescriptor yX13_isKind.desc).map (fun d => d.parameters.length) = some 1 := by decide +kernel
theorem hdS_X13_isCell : yX13_isCell.cls ≠ "java/lang/invoke/MethodHandle" ∧ yX13_isCell.cls ≠ "java/lang/invoke/VarHandle" ∧ (parseMethodDescriptor yX13_isCell.desc).map (fun d => d.parameters.length) = some 1 := by decide +kernel
theorem hdS_X13_place : yX13_place.cls ≠ "java/lang/invoke/MethodHandle" ∧ yX13_place.cls ≠ "java/lang/invoke/VarHandle" ∧ (parseMethodDescriptor yX13_place.desc).map (fun d => d.parameters.length) = some 2 := by decide +kernel
theorem hdV_X13_isRunning : yX13_isRunning.cls = RX13 ∧ yX13_isRunning.cls ≠ "java/lang/invoke/MethodHandle" ∧ yX13_isRunning.cls ≠ "java/lang/invoke/VarHandle" ∧ (parseMethodDescriptor yX13_isRunning.desc).map (fun d => d.parameters.length) = some 0 := by decide +kernel
theorem hdV_X13_loud : yX13_loud.cls = RX13 ∧ yX13_loud.cls ≠ "java/lang/invoke/MethodHandle" ∧ yX13_loud.cls ≠ "java/lang/invoke/VarHandle" ∧ (parseMethodDescriptor yX13_loud.desc).map (fun d => d.parameters.length) = some 0 := by decide +kernel
theorem hdS_X13_apart : yX13_apart.cls ≠ "java/lang/invoke/MethodHandle" ∧ yX13_apart.cls ≠ "java/lang/invoke/VarHandle" ∧ (parseMethodDescriptor yX13_apart.desc).map (fun d => d.parameters.length) = some 2 := by decide +kernel
theorem hdS_X13_sign : yX13_sign.cls ≠ "java/lang/invoke/MethodHandle" ∧ yX13_sign.cls ≠ "java/lang/invoke/VarHandle" ∧ (parseMethodDescriptor yX13_sign.desc).map (fun d => d.parameters.length) = some 1 := by decide +kernel
theorem hdV_X13_side : yX13_side.cls = RX13 ∧ yX13_side.cls ≠ "java/lang/invoke/MethodHandle" ∧ yX13_side.cls ≠ "java/lang/invoke/VarHandle" ∧ (parseMethodDescriptor yX13_side.desc).map (fun d => d.parameters.length) = some 0 := by decide +kernel
theorem hdV_X13_high : yX13_high.cls = RX13 ∧ yX13_high.cls ≠ "java/lang/invoke/MethodHandle" ∧ yX13_high.cls ≠ "java/lang/invoke/VarHandle" ∧ (parseMethodDescriptor yX13_high.desc).map (fun d => d.parameters.length) = some 0 := by decide +kernel
theorem hdV_X13_loudAt : yX13_loudAt.cls = RX13 ∧ yX13_loudAt.cls ≠ "java/lang/invoke/MethodHandle" ∧ yX13_loudAt.cls ≠ "java/lang/invoke/VarHandle" ∧ (parseMethodDescriptor yX13_loudAt.desc).map (fun d => d.parameters.length) = some 1 := by decide +kernel
theorem hdV_X13_isAhead : yX13_isAhead.cls = RX13 ∧ yX13_isAhead.cls ≠ "java/lang/invoke/MethodHandle" ∧ yX13_isAhead.cls ≠ "java/lang/invoke/VarHandle" ∧ (parseMethodDescriptor yX13_isAhead.desc).map (fun d => d.parameters.length) = some 0 := by decide +kernel
theorem hdS_X13_beside : yX13_beside.cls ≠ "java/lang/invoke/MethodHandle" ∧ yX13_beside.cls ≠ "java/lang/invoke/VarHandle" ∧ (parseMethodDescriptor yX13_beside.desc).map (fun d => d.parameters.length) = some 2 := by decide +kernel
theorem hdV_X13_tick : yX13_tick.cls = RX13 ∧ yX13_tick.cls ≠ "java/lang/invoke/MethodHandle" ∧ yX13_tick.cls ≠ "java/lang/invoke/VarHandle" ∧ (parseMethodDescriptor yX13_tick.desc).map (fun d => d.parameters.length) = some 0 := by decide +kernel
theorem hdV_X13_strikeIs : yX13_strikeIs.cls = RX13 ∧ yX13_strikeIs.cls ≠ "java/lang/invoke/MethodHandle" ∧ yX13_strikeIs.cls ≠ "java/lang/invoke/VarHandle" ∧ (parseMethodDescriptor yX13_strikeIs.desc).map (fun d => d.parameters.length) = some 2 := by decide +kernel
theorem hdV_X13_wide : yX13_wide.cls = RX13 ∧ yX13_wide.cls ≠ "java/lang/invoke/MethodHandle" ∧ yX13_wide.cls ≠ "java/lang/invoke/VarHandle" ∧ (parseMethodDescriptor yX13_wide.desc).map (fun d => d.parameters.length) = some 1 := by decide +kernel
theorem hdV_X13_deep : yX13_deep.cls = RX13 ∧ yX13_deep.cls ≠ "java/lang/invoke/MethodHandle" ∧ yX13_deep.cls ≠ "java/lang/invoke/VarHandle" ∧ (parseMethodDescriptor yX13_deep.desc).map (fun d => d.parameters.length) = some 1 := by decide +kernel
theorem hdS_X13_copyRow : yX13_copyRow.cls ≠ "java/lang/invoke/MethodHandle" ∧ yX13_copyRow.cls ≠ "java/lang/invoke/VarHandle" ∧ (parseMethodDescriptor yX13_copyRow.desc).map (fun d => d.parameters.length) = some 2 := by decide +kernel
theorem hdV_X13_takes : yX13_takes.cls = RX13 ∧ yX13_takes.cls ≠ "java/lang/invoke/MethodHandle" ∧ yX13_takes.cls ≠ "java/lang/invoke/VarHandle" ∧ (parseMethodDescriptor yX13_takes.desc).map (fun d => d.parameters.length) = some 1 := by decide +kernel
theorem hdV_X13_ticks : yX13_ticks.cls = RX13 ∧ yX13_ticks.cls ≠ "java/lang/invoke/MethodHandle" ∧ yX13_ticks.cls ≠ "java/lang/invoke/VarHandle" ∧ (parseMethodDescriptor yX13_ticks.desc).map (fun d => d.parameters.length) = some 1 := by decide +kernel
theorem hdV_X13_reaches : yX13_reaches.cls = RX13 ∧ yX13_reaches.cls ≠ "java/lang/invoke/MethodHandle" ∧ yX13_reaches.cls ≠ "java/lang/invoke/VarHandle" ∧ (parseMethodDescriptor yX13_reaches.desc).map (fun d => d.parameters.length) = some 1 := by decide +kernel
set_option maxRecDepth 100000 in
theorem m_X13_within {l : Launch} {F : Fam} {ct : Ct} (v lo hi : Int32) : Cm l yX13_within (ws_ yX13_within cX13_within 3 (some .boolean)) ({ frames := 0, cells := 0, slots := 0, locals := 0 }) F [.int v, .int lo, .int hi] (ct) (fun _ : Unit => some (.int (b2i (p_in v lo hi)))) (fun _ => ct) := by
  refine Cm.start (by decide) (Nat.le_of_ble_eq_true rfl) ?_
  intro p e s m below meth c hf hX hC ls hl
  obtain ⟨hx, hb, hr, hml, hown, hts, hlocks⟩ := hf
  have hl : lv_has ls 3 [(0, .int v), (1, .int lo), (2, .int hi)] := hl
  have hown : s.vm.findClass "OwlEarsModel" = some m.cls := hown
  refine lv_iload_n hx hb dX13_within_0 rfl (lv_at hl 0 rfl) ?_
  refine lv_iload_n hx hb dX13_within_1 rfl (lv_at hl 1 rfl) ?_
  refine lv_icmp_lt (tgt := 14) hx hb dX13_within_2 (by decide) (fun c_1 => ?_) (fun c_1 => ?_)
  · refine lv_iconst (v := 0) hx hb dX13_within_14 rfl ?_
    exact fr_z hx hb hr rfl hlocks hX hC () (congrArg (fun z => some (Value.int z)) (b2i_f (by first | rfl | (simp [p_in, c_1])))) rfl dX13_within_15
  · refine lv_iload_n hx hb dX13_within_5 rfl (lv_at hl 0 rfl) ?_
    refine lv_iload_n hx hb dX13_within_6 rfl (lv_at hl 2 rfl) ?_
    refine lv_icmp_gt (tgt := 14) hx hb dX13_within_7 (by decide) (fun c_2 => ?_) (fun c_2 => ?_)
    · refine lv_iconst (v := 0) hx hb dX13_within_14 rfl ?_
      exact fr_z hx hb hr rfl hlocks hX hC () (congrArg (fun z => some (Value.int z)) (b2i_f (by first | rfl | (simp [p_in, c_1, c_2])))) rfl dX13_within_15
    · refine lv_iconst (v := 1) hx hb dX13_within_10 rfl ?_
      refine lv_goto (tgt := 15) hx hb dX13_within_11 (by decide) ?_
      exact fr_z hx hb hr rfl hlocks hX hC () (congrArg (fun z => some (Value.int z)) (b2i_t (by first | rfl | (simp [p_in, c_1, c_2])))) rfl dX13_within_15
set_option maxRecDepth 100000 in
theorem m_X13_isCell {l : Launch} {F : Fam} {ct : Ct} (v : Int32) : Cm l yX13_isCell (ws_ yX13_isCell cX13_isCell 1 (some .boolean)) ({ frames := 1, cells := 0, slots := 0, locals := 22 }) F [.int v] (ct) (fun _ : Unit => some (.int (b2i (p_in v 0 35)))) (fun _ => ct) := by
  refine Cm.start (by decide) (Nat.le_of_ble_eq_true rfl) ?_
  intro p e s m below meth c hf hX hC ls hl
  obtain ⟨hx, hb, hr, hml, hown, hts, hlocks⟩ := hf
  have hl : lv_has ls 1 [(0, .int v)] := hl
  have hown : s.vm.findClass "OwlEarsModel" = some m.cls := hown
  refine lv_iload_n hx hb dX13_isCell_0 rfl (lv_at hl 0 rfl) ?_
  refine lv_iconst (v := 0) hx hb dX13_isCell_1 rfl ?_
  refine lv_bipush (v := 35) hx hb dX13_isCell_2 rfl ?_
  refine fc_S (As := [.int v, .int 0, .int 35]) (rest := []) hx hb hml hown hts hX hC (m_X13_within v 0 35) (lw_S q1390 q1391 q124 q1392) hdS_X13_within ⟨rfl, rfl⟩ ⟨Nat.le_of_ble_eq_true rfl, Nat.le_of_ble_eq_true rfl⟩ hl.1 rfl (Nat.le_of_ble_eq_true rfl) ⟨Nat.zero_le _, Nat.zero_le _⟩ dX13_isCell_4 (fun _ H locs hC => ?_)
  refine W.eq (g2 := F0 m 7 ls [.int (b2i (p_in v 0 35))]) rfl ?_
  exact fr_z hx hb hr nar_b2i hlocks hX hC () rfl rfl dX13_isCell_7
set_option maxRecDepth 100000 in
theorem m_X13_isHeading {l : Launch} {F : Fam} {ct : Ct} (v : Int32) : Cm l yX13_isHeading (ws_ yX13_isHeading cX13_isHeading 1 (some .boolean)) ({ frames := 1, cells := 0, slots := 0, locals := 22 }) F [.int v] (ct) (fun _ : Unit => some (.int (b2i (p_in v 0 3)))) (fun _ => ct) := by
  refine Cm.start (by decide) (Nat.le_of_ble_eq_true rfl) ?_
  intro p e s m below meth c hf hX hC ls hl
  obtain ⟨hx, hb, hr, hml, hown, hts, hlocks⟩ := hf
  have hl : lv_has ls 1 [(0, .int v)] := hl
  have hown : s.vm.findClass "OwlEarsModel" = some m.cls := hown
  refine lv_iload_n hx hb dX13_isHeading_0 rfl (lv_at hl 0 rfl) ?_
  refine lv_iconst (v := 0) hx hb dX13_isHeading_1 rfl ?_
  refine lv_iconst (v := 3) hx hb dX13_isHeading_2 rfl ?_
  refine fc_S (As := [.int v, .int 0, .int 3]) (rest := []) hx hb hml hown hts hX hC (m_X13_within v 0 3) (lw_S q1390 q1391 q124 q1392) hdS_X13_within ⟨rfl, rfl⟩ ⟨Nat.le_of_ble_eq_true rfl, Nat.le_of_ble_eq_true rfl⟩ hl.1 rfl (Nat.le_of_ble_eq_true rfl) ⟨Nat.zero_le _, Nat.zero_le _⟩ dX13_isHeading_3 (fun _ H locs hC => ?_)
  refine W.eq (g2 := F0 m 6 ls [.int (b2i (p_in v 0 3))]) rfl ?_
  exact fr_z hx hb hr nar_b2i hlocks hX hC () rfl rfl dX13_isHeading_6
set_option maxRecDepth 100000 in
theorem m_X13_isKind {l : Launch} {F : Fam} {ct : Ct} (v : Int32) : Cm l yX13_isKind (ws_ yX13_isKind cX13_isKind 1 (some .boolean)) ({ frames := 1, cells := 0, slots := 0, locals := 22 }) F [.int v] (ct) (fun _ : Unit => some (.int (b2i (p_in v 0 6)))) (fun _ => ct) := by
  refine Cm.start (by decide) (Nat.le_of_ble_eq_true rfl) ?_
  intro p e s m below meth c hf hX hC ls hl
  obtain ⟨hx, hb, hr, hml, hown, hts, hlocks⟩ := hf
  have hl : lv_has ls 1 [(0, .int v)] := hl
  have hown : s.vm.findClass "OwlEarsModel" = some m.cls := hown
  refine lv_iload_n hx hb dX13_isKind_0 rfl (lv_at hl 0 rfl) ?_
  refine lv_iconst (v := 0) hx hb dX13_isKind_1 rfl ?_
  refine lv_bipush (v := 6) hx hb dX13_isKind_2 rfl ?_
  refine fc_S (As := [.int v, .int 0, .int 6]) (rest := []) hx hb hml hown hts hX hC (m_X13_within v 0 6) (lw_S q1390 q1391 q124 q1392) hdS_X13_within ⟨rfl, rfl⟩ ⟨Nat.le_of_ble_eq_true rfl, Nat.le_of_ble_eq_true rfl⟩ hl.1 rfl (Nat.le_of_ble_eq_true rfl) ⟨Nat.zero_le _, Nat.zero_le _⟩ dX13_isKind_4 (fun _ H locs hC => ?_)
  refine W.eq (g2 := F0 m 7 ls [.int (b2i (p_in v 0 6))]) rfl ?_
  exact fr_z hx hb hr nar_b2i hlocks hX hC () rfl rfl dX13_isKind_7
set_option maxRecDepth 100000 in
theorem m_X13_isSpot {l : Launch} {F : Fam} {ct : Ct} (v : Int32) : Cm l yX13_isSpot (ws_ yX13_isSpot cX13_isSpot 1 (some .boolean)) ({ frames := 1, cells := 0, slots := 0, locals := 22 }) F [.int v] (ct) (fun _ : Unit => some (.int (b2i (p_in v 0 9)))) (fun _ => ct) := by
  refine Cm.start (by decide) (Nat.le_of_ble_eq_true rfl) ?_
  intro p e s m below meth c hf hX hC ls hl
  obtain ⟨hx, hb, hr, hml, hown, hts, hlocks⟩ := hf
  have hl : lv_has ls 1 [(0, .int v)] := hl
  have hown : s.vm.findClass "OwlEarsModel" = some m.cls := hown
  refine lv_iload_n hx hb dX13_isSpot_0 rfl (lv_at hl 0 rfl) ?_
  refine lv_iconst (v := 0) hx hb dX13_isSpot_1 rfl ?_
  refine lv_bipush (v := 9) hx hb dX13_isSpot_2 rfl ?_
  refine fc_S (As := [.int v, .int 0, .int 9]) (rest := []) hx hb hml hown hts hX hC (m_X13_within v 0 9) (lw_S q1390 q1391 q124 q1392) hdS_X13_within ⟨rfl, rfl⟩ ⟨Nat.le_of_ble_eq_true rfl, Nat.le_of_ble_eq_true rfl⟩ hl.1 rfl (Nat.le_of_ble_eq_true rfl) ⟨Nat.zero_le _, Nat.zero_le _⟩ dX13_isSpot_4 (fun _ H locs hC => ?_)
  refine W.eq (g2 := F0 m 7 ls [.int (b2i (p_in v 0 9))]) rfl ?_
  exact fr_z hx hb hr nar_b2i hlocks hX hC () rfl rfl dX13_isSpot_7
set_option maxRecDepth 100000 in
theorem m_X13_isSheet {l : Launch} {F : Fam} {ct : Ct} (v : Int32) : Cm l yX13_isSheet (ws_ yX13_isSheet cX13_isSheet 1 (some .boolean)) ({ frames := 1, cells := 0, slots := 0, locals := 22 }) F [.int v] (ct) (fun _ : Unit => some (.int (b2i (p_in v 0 3)))) (fun _ => ct) := by
  refine Cm.start (by decide) (Nat.le_of_ble_eq_true rfl) ?_
  intro p e s m below meth c hf hX hC ls hl
  obtain ⟨hx, hb, hr, hml, hown, hts, hlocks⟩ := hf
  have hl : lv_has ls 1 [(0, .int v)] := hl
  have hown : s.vm.findClass "OwlEarsModel" = some m.cls := hown
  refine lv_iload_n hx hb dX13_isSheet_0 rfl (lv_at hl 0 rfl) ?_
  refine lv_iconst (v := 0) hx hb dX13_isSheet_1 rfl ?_
  refine lv_iconst (v := 3) hx hb dX13_isSheet_2 rfl ?_
  refine fc_S (As := [.int v, .int 0, .int 3]) (rest := []) hx hb hml hown hts hX hC (m_X13_within v 0 3) (lw_S q1390 q1391 q124 q1392) hdS_X13_within ⟨rfl, rfl⟩ ⟨Nat.le_of_ble_eq_true rfl, Nat.le_of_ble_eq_true rfl⟩ hl.1 rfl (Nat.le_of_ble_eq_true rfl) ⟨Nat.zero_le _, Nat.zero_le _⟩ dX13_isSheet_3 (fun _ H locs hC => ?_)
  refine W.eq (g2 := F0 m 6 ls [.int (b2i (p_in v 0 3))]) rfl ?_
  exact fr_z hx hb hr nar_b2i hlocks hX hC () rfl rfl dX13_isSheet_6
set_option maxRecDepth 100000 in
theorem m_X13_isLooked {l : Launch} {F : Fam} {ct : Ct} (v : Int32) : Cm l yX13_isLooked (ws_ yX13_isLooked cX13_isLooked 1 (some .boolean)) ({ frames := 1, cells := 0, slots := 0, locals := 22 }) F [.int v] (ct) (fun _ : Unit => some (.int (b2i (p_in v 0 100)))) (fun _ => ct) := by
  refine Cm.start (by decide) (Nat.le_of_ble_eq_true rfl) ?_
  intro p e s m below meth c hf hX hC ls hl
  obtain ⟨hx, hb, hr, hml, hown, hts, hlocks⟩ := hf
  have hl : lv_has ls 1 [(0, .int v)] := hl
  have hown : s.vm.findClass "OwlEarsModel" = some m.cls := hown
  refine lv_iload_n hx hb dX13_isLooked_0 rfl (lv_at hl 0 rfl) ?_
  refine lv_iconst (v := 0) hx hb dX13_isLooked_1 rfl ?_
  refine lv_bipush (v := 100) hx hb dX13_isLooked_2 rfl ?_
  refine fc_S (As := [.int v, .int 0, .int 100]) (rest := []) hx hb hml hown hts hX hC (m_X13_within v 0 100) (lw_S q1390 q1391 q124 q1392) hdS_X13_within ⟨rfl, rfl⟩ ⟨Nat.le_of_ble_eq_true rfl, Nat.le_of_ble_eq_true rfl⟩ hl.1 rfl (Nat.le_of_ble_eq_true rfl) ⟨Nat.zero_le _, Nat.zero_le _⟩ dX13_isLooked_4 (fun _ H locs hC => ?_)
  refine W.eq (g2 := F0 m 7 ls [.int (b2i (p_in v 0 100))]) rfl ?_
  exact fr_z hx hb hr nar_b2i hlocks hX hC () rfl rfl dX13_isLooked_7
set_option maxRecDepth 100000 in
theorem m_X13_isAheadBy {l : Launch} {F : Fam} {ct : Ct} (v : Int32) : Cm l yX13_isAheadBy (ws_ yX13_isAheadBy cX13_isAheadBy 1 (some .boolean)) ({ frames := 1, cells := 0, slots := 0, locals := 22 }) F [.int v] (ct) (fun _ : Unit => some (.int (b2i (p_in v 0 200)))) (fun _ => ct) := by
  refine Cm.start (by decide) (Nat.le_of_ble_eq_true rfl) ?_
  intro p e s m below meth c hf hX hC ls hl
  obtain ⟨hx, hb, hr, hml, hown, hts, hlocks⟩ := hf
  have hl : lv_has ls 1 [(0, .int v)] := hl
  have hown : s.vm.findClass "OwlEarsModel" = some m.cls := hown
  refine lv_iload_n hx hb dX13_isAheadBy_0 rfl (lv_at hl 0 rfl) ?_
  refine lv_iconst (v := 0) hx hb dX13_isAheadBy_1 rfl ?_
  refine lv_sipush (v := 200) hx hb dX13_isAheadBy_2 rfl ?_
  refine fc_S (As := [.int v, .int 0, .int 200]) (rest := []) hx hb hml hown hts hX hC (m_X13_within v 0 200) (lw_S q1390 q1391 q124 q1392) hdS_X13_within ⟨rfl, rfl⟩ ⟨Nat.le_of_ble_eq_true rfl, Nat.le_of_ble_eq_true rfl⟩ hl.1 rfl (Nat.le_of_ble_eq_true rfl) ⟨Nat.zero_le _, Nat.zero_le _⟩ dX13_isAheadBy_5 (fun _ H locs hC => ?_)
  refine W.eq (g2 := F0 m 8 ls [.int (b2i (p_in v 0 200))]) rfl ?_
  exact fr_z hx hb hr nar_b2i hlocks hX hC () rfl rfl dX13_isAheadBy_8
set_option maxRecDepth 100000 in
theorem m_X13_apart {l : Launch} {F : Fam} {ct : Ct} (a b : Int32) : Cm l yX13_apart (ws_ yX13_apart cX13_apart 2 (some .int)) ({ frames := 1, cells := 0, slots := 0, locals := 14 }) F [.int a, .int b] (ct) (fun _ : Unit => some (.int (p_apart a b))) (fun _ => ct) := by
  refine Cm.start (by decide) (Nat.le_of_ble_eq_true rfl) ?_
  intro p e s m below meth c hf hX hC ls hl
  obtain ⟨hx, hb, hr, hml, hown, hts, hlocks⟩ := hf
  have hl : lv_has ls 2 [(0, .int a), (1, .int b)] := hl
  have hown : s.vm.findClass "OwlEarsModel" = some m.cls := hown
  refine lv_iload_n hx hb dX13_apart_0 rfl (lv_at hl 0 rfl) ?_
  refine lv_bipush (v := 6) hx hb dX13_apart_1 rfl ?_
  refine lv_idiv hx hb dX13_apart_3 (by decide) ?_
  refine lv_iload_n hx hb dX13_apart_4 rfl (lv_at hl 1 rfl) ?_
  refine lv_bipush (v := 6) hx hb dX13_apart_5 rfl ?_
  refine lv_idiv hx hb dX13_apart_7 (by decide) ?_
  refine lv_isub hx hb dX13_apart_8 ?_
  refine fw_abs hx hb (hml.trans hl.1.symm) hown hts q1428 (Nat.le_of_ble_eq_true rfl) (Nat.le_of_ble_eq_true rfl) (Nat.zero_le _) (Nat.zero_le _) q500 q125 q501 dX13_apart_9 ?_
  refine lv_iload_n hx hb dX13_apart_12 rfl (lv_at hl 0 rfl) ?_
  refine lv_bipush (v := 6) hx hb dX13_apart_13 rfl ?_
  refine fw_irem hx hb dX13_apart_15 (by decide) ?_
  refine lv_iload_n hx hb dX13_apart_16 rfl (lv_at hl 1 rfl) ?_
  refine lv_bipush (v := 6) hx hb dX13_apart_17 rfl ?_
  refine fw_irem hx hb dX13_apart_19 (by decide) ?_
  refine lv_isub hx hb dX13_apart_20 ?_
  refine fw_abs hx hb (hml.trans hl.1.symm) hown hts q1428 (Nat.le_of_ble_eq_true rfl) (Nat.le_of_ble_eq_true rfl) (Nat.zero_le _) (Nat.zero_le _) q500 q125 q501 dX13_apart_21 ?_
  refine lv_iadd hx hb dX13_apart_24 ?_
  exact fr_i hx hb hr hlocks hX hC () (congrArg (fun z => some (Value.int z)) (rfl)) rfl dX13_apart_25
set_option maxRecDepth 100000 in
theorem m_X13_beside {l : Launch} {F : Fam} {ct : Ct} (c0 h : Int32) (hc : vp_in c0 36) : Cm l yX13_beside (ws_ yX13_beside cX13_beside 2 (some .int)) ({ frames := 0, cells := 0, slots := 0, locals := 0 }) F [.int c0, .int h] (ct) (fun _ : Unit => some (.int (p_nb c0 h))) (fun _ => ct) := by
  refine Cm.start (by decide) (Nat.le_of_ble_eq_true rfl) ?_
  intro p e s m below meth c hf hX hC ls hl
  obtain ⟨hx, hb, hr, hml, hown, hts, hlocks⟩ := hf
  have hl : lv_has ls 2 [(0, .int c0), (1, .int h)] := hl
  have hown : s.vm.findClass "OwlEarsModel" = some m.cls := hown
  refine lv_iload_n hx hb dX13_beside_0 rfl (lv_at hl 1 rfl) ?_
  by_cases c_1 : h = 0
  · refine lv_tableIn (off := 27) (tgt := 28) hx hb dX13_beside_1 (by rw [c_1]; decide) (by rw [c_1]; decide) (by rw [c_1]; rfl) (by decide) ?_
    refine lv_iload_n hx hb dX13_beside_28 rfl (lv_at hl 0 rfl) ?_
    refine lv_bipush (v := 6) hx hb dX13_beside_29 rfl ?_
    refine fj_ge (tgt := 38) hx hb dX13_beside_31 (by decide) (fun c_2 => ?_) (fun c_2 => ?_)
    · refine lv_iload_n hx hb dX13_beside_38 rfl (lv_at hl 0 rfl) ?_
      refine lv_bipush (v := 6) hx hb dX13_beside_39 rfl ?_
      refine lv_isub hx hb dX13_beside_41 ?_
      exact fr_i hx hb hr hlocks hX hC () (congrArg (fun z => some (Value.int z)) (by simp [p_nb, ← c6_36 hc, c_1, c_2])) rfl dX13_beside_42
    · refine lv_iconst (v := (-1)) hx hb dX13_beside_34 rfl ?_
      refine lv_goto (tgt := 42) hx hb dX13_beside_35 (by decide) ?_
      exact fr_i hx hb hr hlocks hX hC () (congrArg (fun z => some (Value.int z)) (by simp [p_nb, ← c6_36 hc, c_1, c_2])) rfl dX13_beside_42
  by_cases c_3 : h = 1
  · refine lv_tableIn (off := 42) (tgt := 43) hx hb dX13_beside_1 (by rw [c_3]; decide) (by rw [c_3]; decide) (by rw [c_3]; rfl) (by decide) ?_
    refine lv_iload_n hx hb dX13_beside_43 rfl (lv_at hl 0 rfl) ?_
    refine lv_bipush (v := 6) hx hb dX13_beside_44 rfl ?_
    refine fw_irem hx hb dX13_beside_46 (by decide) ?_
    refine lv_iconst (v := 5) hx hb dX13_beside_47 rfl ?_
    refine lv_icmp_ne (tgt := 55) hx hb dX13_beside_48 (by decide) (fun c_4 => ?_) (fun c_4 => ?_)
    · refine lv_iload_n hx hb dX13_beside_55 rfl (lv_at hl 0 rfl) ?_
      refine lv_iconst (v := 1) hx hb dX13_beside_56 rfl ?_
      refine lv_iadd hx hb dX13_beside_57 ?_
      exact fr_i hx hb hr hlocks hX hC () (congrArg (fun z => some (Value.int z)) (by simp [p_nb, ← c6_36 hc, c_1, c_3, c_4])) rfl dX13_beside_58
    · refine lv_iconst (v := (-1)) hx hb dX13_beside_51 rfl ?_
      refine lv_goto (tgt := 58) hx hb dX13_beside_52 (by decide) ?_
      exact fr_i hx hb hr hlocks hX hC () (congrArg (fun z => some (Value.int z)) (by simp [p_nb, ← c6_36 hc, c_1, c_3, c_4])) rfl dX13_beside_58
  by_cases c_5 : h = 2
  · refine lv_tableIn (off := 58) (tgt := 59) hx hb dX13_beside_1 (by rw [c_5]; decide) (by rw [c_5]; decide) (by rw [c_5]; rfl) (by decide) ?_
    refine lv_iload_n hx hb dX13_beside_59 rfl (lv_at hl 0 rfl) ?_
    refine lv_bipush (v := 6) hx hb dX13_beside_60 rfl ?_
    refine lv_iadd hx hb dX13_beside_62 ?_
    refine lv_bipush (v := 36) hx hb dX13_beside_63 rfl ?_
    refine fj_ge (tgt := 75) hx hb dX13_beside_65 (by decide) (fun c_6 => ?_) (fun c_6 => ?_)
    · refine lv_iconst (v := (-1)) hx hb dX13_beside_75 rfl ?_
      exact fr_i hx hb hr hlocks hX hC () (congrArg (fun z => some (Value.int z)) (by simp [p_nb, ← c6_36 hc, c_1, c_3, c_5, c_6])) rfl dX13_beside_76
    · refine lv_iload_n hx hb dX13_beside_68 rfl (lv_at hl 0 rfl) ?_
      refine lv_bipush (v := 6) hx hb dX13_beside_69 rfl ?_
      refine lv_iadd hx hb dX13_beside_71 ?_
      refine lv_goto (tgt := 76) hx hb dX13_beside_72 (by decide) ?_
      exact fr_i hx hb hr hlocks hX hC () (congrArg (fun z => some (Value.int z)) (by simp [p_nb, ← c6_36 hc, c_1, c_3, c_5, c_6])) rfl dX13_beside_76
  refine lv_tableOut (tgt := 77) hx hb dX13_beside_1 (tabo 0 3 (by decide) (fun k hk => match k, hk with | 0, _ => c_1 | 1, _ => c_3 | 2, _ => c_5) rfl) (by decide) ?_
  refine lv_iload_n hx hb dX13_beside_77 rfl (lv_at hl 0 rfl) ?_
  refine lv_bipush (v := 6) hx hb dX13_beside_78 rfl ?_
  refine fw_irem hx hb dX13_beside_80 (by decide) ?_
  refine lv_if_ne (tgt := 88) hx hb dX13_beside_81 (by decide) (fun c_7 => ?_) (fun c_7 => ?_)
  · refine lv_iload_n hx hb dX13_beside_88 rfl (lv_at hl 0 rfl) ?_
    refine lv_iconst (v := 1) hx hb dX13_beside_89 rfl ?_
    refine lv_isub hx hb dX13_beside_90 ?_
    exact fr_i hx hb hr hlocks hX hC () (congrArg (fun z => some (Value.int z)) (by simp [p_nb, ← c6_36 hc, c_1, c_3, c_5, c_7])) rfl dX13_beside_91
  · refine lv_iconst (v := (-1)) hx hb dX13_beside_84 rfl ?_
    refine lv_goto (tgt := 91) hx hb dX13_beside_85 (by decide) ?_
    exact fr_i hx hb hr hlocks hX hC () (congrArg (fun z => some (Value.int z)) (by simp [p_nb, ← c6_36 hc, c_1, c_3, c_5, c_7])) rfl dX13_beside_91
set_option maxRecDepth 100000 in
theorem m_X13_sign {l : Launch} {F : Fam} {ct : Ct} (x : Int32) : Cm l yX13_sign (ws_ yX13_sign cX13_sign 1 (some .int)) ({ frames := 0, cells := 0, slots := 0, locals := 0 }) F [.int x] (ct) (fun _ : Unit => some (.int (sgn x))) (fun _ => ct) := by
  refine Cm.start (by decide) (Nat.le_of_ble_eq_true rfl) ?_
  intro p e s m below meth c hf hX hC ls hl
  obtain ⟨hx, hb, hr, hml, hown, hts, hlocks⟩ := hf
  have hl : lv_has ls 1 [(0, .int x)] := hl
  have hown : s.vm.findClass "OwlEarsModel" = some m.cls := hown
  refine lv_iload_n hx hb dX13_sign_0 rfl (lv_at hl 0 rfl) ?_
  refine fi_ge (tgt := 8) hx hb dX13_sign_1 (by decide) (fun c_1 => ?_) (fun c_1 => ?_)
  · refine lv_iload_n hx hb dX13_sign_8 rfl (lv_at hl 0 rfl) ?_
    refine fi_le (tgt := 16) hx hb dX13_sign_9 (by decide) (fun c_2 => ?_) (fun c_2 => ?_)
    · refine lv_iconst (v := 0) hx hb dX13_sign_16 rfl ?_
      exact fr_i hx hb hr hlocks hX hC () (congrArg (fun z => some (Value.int z)) (by first | rfl | (simp [sgn, c_1, c_2]))) rfl dX13_sign_17
    · refine lv_iconst (v := 1) hx hb dX13_sign_12 rfl ?_
      refine lv_goto (tgt := 17) hx hb dX13_sign_13 (by decide) ?_
      exact fr_i hx hb hr hlocks hX hC () (congrArg (fun z => some (Value.int z)) (by first | rfl | (simp [sgn, c_1, c_2]))) rfl dX13_sign_17
  · refine lv_iconst (v := (-1)) hx hb dX13_sign_4 rfl ?_
    refine lv_goto (tgt := 17) hx hb dX13_sign_5 (by decide) ?_
    exact fr_i hx hb hr hlocks hX hC () (congrArg (fun z => some (Value.int z)) (by first | rfl | (simp [sgn, c_1]))) rfl dX13_sign_17
abbrev p_mayLie (what v : Int32) : Prop := if what = 0 then p_in v 0 30 else what = 1 ∧ p_in v 0 99
set_option maxRecDepth 100000 in
theorem m_X13_mayLie {l : Launch} {F : Fam} {ct : Ct} (what v : Int32) : Cm l yX13_mayLie (ws_ yX13_mayLie cX13_mayLie 2 (some .boolean)) ({ frames := 1, cells := 0, slots := 0, locals := 22 }) F [.int what, .int v] (ct) (fun _ : Unit => some (.int (b2i (p_mayLie what v)))) (fun _ => ct) := by
  refine Cm.start (by decide) (Nat.le_of_ble_eq_true rfl) ?_
  intro p e s m below meth c hf hX hC ls hl
  obtain ⟨hx, hb, hr, hml, hown, hts, hlocks⟩ := hf
  have hl : lv_has ls 2 [(0, .int what), (1, .int v)] := hl
  have hown : s.vm.findClass "OwlEarsModel" = some m.cls := hown
  refine lv_iload_n hx hb dX13_mayLie_0 rfl (lv_at hl 0 rfl) ?_
  refine lv_if_ne (tgt := 14) hx hb dX13_mayLie_1 (by decide) (fun c_1 => ?_) (fun c_1 => ?_)
  · refine lv_iload_n hx hb dX13_mayLie_14 rfl (lv_at hl 0 rfl) ?_
    refine lv_iconst (v := 1) hx hb dX13_mayLie_15 rfl ?_
    refine lv_icmp_ne (tgt := 33) hx hb dX13_mayLie_16 (by decide) (fun c_2 => ?_) (fun c_2 => ?_)
    · refine lv_iconst (v := 0) hx hb dX13_mayLie_33 rfl ?_
      exact fr_z hx hb hr rfl hlocks hX hC () (congrArg (fun z => some (Value.int z)) (b2i_f (by grind))) rfl dX13_mayLie_34
    · refine lv_iload_n hx hb dX13_mayLie_19 rfl (lv_at hl 1 rfl) ?_
      refine lv_iconst (v := 0) hx hb dX13_mayLie_20 rfl ?_
      refine lv_bipush (v := 99) hx hb dX13_mayLie_21 rfl ?_
      refine fc_S (As := [.int v, .int 0, .int 99]) (rest := []) hx hb hml hown hts hX hC (m_X13_within v 0 99) (lw_S q1390 q1391 q124 q1392) hdS_X13_within ⟨rfl, rfl⟩ ⟨Nat.le_of_ble_eq_true rfl, Nat.le_of_ble_eq_true rfl⟩ hl.1 rfl (Nat.le_of_ble_eq_true rfl) ⟨Nat.zero_le _, Nat.zero_le _⟩ dX13_mayLie_23 (fun _ H locs hC => ?_)
      refine W.eq (g2 := F0 m 26 ls [.int (b2i (p_in v 0 99))]) rfl ?_
      refine fb_eq (tgt := 33) hx hb dX13_mayLie_26 (by decide) (fun c_4 => ?_) (fun c_4 => ?_)
      · refine lv_iconst (v := 0) hx hb dX13_mayLie_33 rfl ?_
        exact fr_z hx hb hr rfl hlocks hX hC () (congrArg (fun z => some (Value.int z)) (b2i_f (by grind))) rfl dX13_mayLie_34
      · refine lv_iconst (v := 1) hx hb dX13_mayLie_29 rfl ?_
        refine lv_goto (tgt := 34) hx hb dX13_mayLie_30 (by decide) ?_
        exact fr_z hx hb hr rfl hlocks hX hC () (congrArg (fun z => some (Value.int z)) (b2i_t (by grind))) rfl dX13_mayLie_34
  · refine lv_iload_n hx hb dX13_mayLie_4 rfl (lv_at hl 1 rfl) ?_
    refine lv_iconst (v := 0) hx hb dX13_mayLie_5 rfl ?_
    refine lv_bipush (v := 30) hx hb dX13_mayLie_6 rfl ?_
    refine fc_S (As := [.int v, .int 0, .int 30]) (rest := []) hx hb hml hown hts hX hC (m_X13_within v 0 30) (lw_S q1390 q1391 q124 q1392) hdS_X13_within ⟨rfl, rfl⟩ ⟨Nat.le_of_ble_eq_true rfl, Nat.le_of_ble_eq_true rfl⟩ hl.1 rfl (Nat.le_of_ble_eq_true rfl) ⟨Nat.zero_le _, Nat.zero_le _⟩ dX13_mayLie_8 (fun _ H locs hC => ?_)
    refine W.eq (g2 := F0 m 11 ls [.int (b2i (p_in v 0 30))]) rfl ?_
    refine lv_goto (tgt := 34) hx hb dX13_mayLie_11 (by decide) ?_
    exact fr_z hx hb hr nar_b2i hlocks hX hC () (congrArg (fun z => some (Value.int z)) (b2i_c (by grind))) rfl dX13_mayLie_34
set_option maxRecDepth 100000 in
theorem m_X13_lies_20 {l : Launch} {F : Fam} {ct : Ct} (c0 what : Int32) (hw0 : what = 0) : Cm l yX13_lies (ws_ yX13_lies cX13_lies 2 (some .int)) ({ frames := 0, cells := 0, slots := 0, locals := 0 }) F [.int c0, .int what] (ct) (fun _ : Unit => some (.int (20 + c0))) (fun _ => ct) := by
  refine Cm.start (by decide) (Nat.le_of_ble_eq_true rfl) ?_
  intro p e s m below meth c hf hX hC ls hl
  obtain ⟨hx, hb, hr, hml, hown, hts, hlocks⟩ := hf
  have hl : lv_has ls 2 [(0, .int c0), (1, .int what)] := hl
  have hown : s.vm.findClass "OwlEarsModel" = some m.cls := hown
  refine lv_iload_n hx hb dX13_lies_0 rfl (lv_at hl 1 rfl) ?_
  refine lv_if_ne (tgt := 9) hx hb dX13_lies_1 (by decide) (fun z_1 => absurd hw0 z_1) (fun _ => ?_)
  refine lv_bipush (v := 20) hx hb dX13_lies_4 rfl ?_
  refine lv_goto (tgt := 11) hx hb dX13_lies_6 (by decide) ?_
  refine lv_iload_n hx hb dX13_lies_11 rfl (lv_at hl 0 rfl) ?_
  refine lv_iadd hx hb dX13_lies_12 ?_
  exact fr_i hx hb hr hlocks hX hC () rfl rfl dX13_lies_13
set_option maxRecDepth 100000 in
theorem m_X13_lies_56 {l : Launch} {F : Fam} {ct : Ct} (c0 what : Int32) (hw0 : ¬ what = 0) : Cm l yX13_lies (ws_ yX13_lies cX13_lies 2 (some .int)) ({ frames := 0, cells := 0, slots := 0, locals := 0 }) F [.int c0, .int what] (ct) (fun _ : Unit => some (.int (56 + c0))) (fun _ => ct) := by
  refine Cm.start (by decide) (Nat.le_of_ble_eq_true rfl) ?_
  intro p e s m below meth c hf hX hC ls hl
  obtain ⟨hx, hb, hr, hml, hown, hts, hlocks⟩ := hf
  have hl : lv_has ls 2 [(0, .int c0), (1, .int what)] := hl
  have hown : s.vm.findClass "OwlEarsModel" = some m.cls := hown
  refine lv_iload_n hx hb dX13_lies_0 rfl (lv_at hl 1 rfl) ?_
  refine lv_if_ne (tgt := 9) hx hb dX13_lies_1 (by decide) (fun _ => ?_) (fun z_1 => absurd z_1 hw0)
  refine lv_bipush (v := 56) hx hb dX13_lies_9 rfl ?_
  refine lv_iload_n hx hb dX13_lies_11 rfl (lv_at hl 0 rfl) ?_
  refine lv_iadd hx hb dX13_lies_12 ?_
  exact fr_i hx hb hr hlocks hX hC () rfl rfl dX13_lies_13
set_option maxRecDepth 100000 in
theorem m_X13_place {l : Launch} {F : Fam} {ct : Ct} (s0 f : Int32) : Cm l yX13_place (ws_ yX13_place cX13_place 2 (some .int)) ({ frames := 0, cells := 0, slots := 0, locals := 0 }) F [.int s0, .int f] (ct) (fun _ : Unit => some (.int (92 + 4 * s0 + f))) (fun _ => ct) := by
  refine Cm.start (by decide) (Nat.le_of_ble_eq_true rfl) ?_
  intro p e s m below meth c hf hX hC ls hl
  obtain ⟨hx, hb, hr, hml, hown, hts, hlocks⟩ := hf
  have hl : lv_has ls 2 [(0, .int s0), (1, .int f)] := hl
  have hown : s.vm.findClass "OwlEarsModel" = some m.cls := hown
  refine lv_bipush (v := 92) hx hb dX13_place_0 rfl ?_
  refine lv_iconst (v := 4) hx hb dX13_place_2 rfl ?_
  refine lv_iload_n hx hb dX13_place_3 rfl (lv_at hl 0 rfl) ?_
  refine lv_imul hx hb dX13_place_4 ?_
  refine lv_iadd hx hb dX13_place_5 ?_
  refine lv_iload_n hx hb dX13_place_6 rfl (lv_at hl 1 rfl) ?_
  refine lv_iadd hx hb dX13_place_7 ?_
  exact fr_i hx hb hr hlocks hX hC () (congrArg (fun z => some (Value.int z)) (rfl)) rfl dX13_place_8
set_option maxRecDepth 100000 in
theorem m_X13_mayBe {l : Launch} {F : Fam} {ct : Ct} (what v : Int32) : Cm l yX13_mayBe (ws_ yX13_mayBe cX13_mayBe 2 (some .boolean)) ({ frames := 2, cells := 0, slots := 0, locals := 42 }) F [.int what, .int v] (ct) (fun _ : Unit => some (.int (b2i (p_okTold what v)))) (fun _ => ct) := by
  refine Cm.start (by decide) (Nat.le_of_ble_eq_true rfl) ?_
  intro p e s m below meth c hf hX hC ls hl
  obtain ⟨hx, hb, hr, hml, hown, hts, hlocks⟩ := hf
  have hl : lv_has ls 2 [(0, .int what), (1, .int v)] := hl
  have hown : s.vm.findClass "OwlEarsModel" = some m.cls := hown
  refine lv_iload_n hx hb dX13_mayBe_0 rfl (lv_at hl 0 rfl) ?_
  by_cases c_1 : what = 0
  · refine lv_tableIn (off := 31) (tgt := 32) hx hb dX13_mayBe_1 (by rw [c_1]; decide) (by rw [c_1]; decide) (by rw [c_1]; rfl) (by decide) ?_
    refine lv_iload_n hx hb dX13_mayBe_32 rfl (lv_at hl 1 rfl) ?_
    refine fc_S (As := [.int v]) (rest := []) hx hb hml hown hts hX hC (m_X13_isKind v) (lw_S q1452 q1453 q124 q1454) hdS_X13_isKind ⟨rfl, rfl⟩ ⟨Nat.le_of_ble_eq_true rfl, Nat.le_of_ble_eq_true rfl⟩ hl.1 rfl (Nat.le_of_ble_eq_true rfl) ⟨Nat.zero_le _, Nat.zero_le _⟩ dX13_mayBe_33 (fun _ H locs hC => ?_)
    refine W.eq (g2 := F0 m 36 ls [.int (b2i (p_in v 0 6))]) rfl ?_
    exact fr_z hx hb hr nar_b2i hlocks hX hC () (congrArg (fun z => some (Value.int z)) (b2i_c (by grind))) rfl dX13_mayBe_36
  by_cases c_3 : what = 1
  · refine lv_tableIn (off := 36) (tgt := 37) hx hb dX13_mayBe_1 (by rw [c_3]; decide) (by rw [c_3]; decide) (by rw [c_3]; rfl) (by decide) ?_
    refine lv_iload_n hx hb dX13_mayBe_37 rfl (lv_at hl 1 rfl) ?_
    refine fc_S (As := [.int v]) (rest := []) hx hb hml hown hts hX hC (m_X13_isCell v) (lw_S q1387 q1388 q124 q1389) hdS_X13_isCell ⟨rfl, rfl⟩ ⟨Nat.le_of_ble_eq_true rfl, Nat.le_of_ble_eq_true rfl⟩ hl.1 rfl (Nat.le_of_ble_eq_true rfl) ⟨Nat.zero_le _, Nat.zero_le _⟩ dX13_mayBe_38 (fun _ H locs hC => ?_)
    refine W.eq (g2 := F0 m 41 ls [.int (b2i (p_in v 0 35))]) rfl ?_
    exact fr_z hx hb hr nar_b2i hlocks hX hC () (congrArg (fun z => some (Value.int z)) (b2i_c (by grind))) rfl dX13_mayBe_41
  by_cases c_5 : what = 2
  · refine lv_tableIn (off := 41) (tgt := 42) hx hb dX13_mayBe_1 (by rw [c_5]; decide) (by rw [c_5]; decide) (by rw [c_5]; rfl) (by decide) ?_
    refine lv_iload_n hx hb dX13_mayBe_42 rfl (lv_at hl 1 rfl) ?_
    refine lv_iconst (v := 0) hx hb dX13_mayBe_43 rfl ?_
    refine lv_bipush (v := 9) hx hb dX13_mayBe_44 rfl ?_
    refine fc_S (As := [.int v, .int 0, .int 9]) (rest := []) hx hb hml hown hts hX hC (m_X13_within v 0 9) (lw_S q1390 q1391 q124 q1392) hdS_X13_within ⟨rfl, rfl⟩ ⟨Nat.le_of_ble_eq_true rfl, Nat.le_of_ble_eq_true rfl⟩ hl.1 rfl (Nat.le_of_ble_eq_true rfl) ⟨Nat.zero_le _, Nat.zero_le _⟩ dX13_mayBe_46 (fun _ H locs hC => ?_)
    refine W.eq (g2 := F0 m 49 ls [.int (b2i (p_in v 0 9))]) rfl ?_
    exact fr_z hx hb hr nar_b2i hlocks hX hC () (congrArg (fun z => some (Value.int z)) (b2i_c (by grind))) rfl dX13_mayBe_49
  by_cases c_7 : what = 3
  · refine lv_tableIn (off := 49) (tgt := 50) hx hb dX13_mayBe_1 (by rw [c_7]; decide) (by rw [c_7]; decide) (by rw [c_7]; rfl) (by decide) ?_
    refine lv_iload_n hx hb dX13_mayBe_50 rfl (lv_at hl 1 rfl) ?_
    refine lv_iconst (v := 0) hx hb dX13_mayBe_51 rfl ?_
    refine lv_sipush (v := 999) hx hb dX13_mayBe_52 rfl ?_
    refine fc_S (As := [.int v, .int 0, .int 999]) (rest := []) hx hb hml hown hts hX hC (m_X13_within v 0 999) (lw_S q1390 q1391 q124 q1392) hdS_X13_within ⟨rfl, rfl⟩ ⟨Nat.le_of_ble_eq_true rfl, Nat.le_of_ble_eq_true rfl⟩ hl.1 rfl (Nat.le_of_ble_eq_true rfl) ⟨Nat.zero_le _, Nat.zero_le _⟩ dX13_mayBe_55 (fun _ H locs hC => ?_)
    refine W.eq (g2 := F0 m 58 ls [.int (b2i (p_in v 0 999))]) rfl ?_
    exact fr_z hx hb hr nar_b2i hlocks hX hC () (congrArg (fun z => some (Value.int z)) (b2i_c (by grind))) rfl dX13_mayBe_58
  refine lv_tableOut (tgt := 59) hx hb dX13_mayBe_1 (tabo 0 4 (by decide) (fun k hk => match k, hk with | 0, _ => c_1 | 1, _ => c_3 | 2, _ => c_5 | 3, _ => c_7) rfl) (by decide) ?_
  refine lv_iconst (v := 0) hx hb dX13_mayBe_59 rfl ?_
  exact fr_z hx hb hr rfl hlocks hX hC () (congrArg (fun z => some (Value.int z)) (b2i_f (by grind))) rfl dX13_mayBe_60
set_option maxRecDepth 100000 in
theorem m_X13_isRhythm {l : Launch} {F : Fam} {ct : Ct} (n k : Int32) : Cm l yX13_isRhythm (ws_ yX13_isRhythm cX13_isRhythm 2 (some .boolean)) ({ frames := 1, cells := 0, slots := 0, locals := 22 }) F [.int n, .int k] (ct) (fun _ : Unit => some (.int (b2i (p_okTicks n k)))) (fun _ => ct) := by
  refine Cm.start (by decide) (Nat.le_of_ble_eq_true rfl) ?_
  intro p e s m below meth c hf hX hC ls hl
  obtain ⟨hx, hb, hr, hml, hown, hts, hlocks⟩ := hf
  have hl : lv_has ls 2 [(0, .int n), (1, .int k)] := hl
  have hown : s.vm.findClass "OwlEarsModel" = some m.cls := hown
  refine lv_iload_n hx hb dX13_isRhythm_0 rfl (lv_at hl 0 rfl) ?_
  refine lv_iconst (v := 1) hx hb dX13_isRhythm_1 rfl ?_
  refine lv_bipush (v := 60) hx hb dX13_isRhythm_2 rfl ?_
  refine fc_S (As := [.int n, .int 1, .int 60]) (rest := []) hx hb hml hown hts hX hC (m_X13_within n 1 60) (lw_S q1390 q1391 q124 q1392) hdS_X13_within ⟨rfl, rfl⟩ ⟨Nat.le_of_ble_eq_true rfl, Nat.le_of_ble_eq_true rfl⟩ hl.1 rfl (Nat.le_of_ble_eq_true rfl) ⟨Nat.zero_le _, Nat.zero_le _⟩ dX13_isRhythm_4 (fun _ H locs hC => ?_)
  refine W.eq (g2 := F0 m 7 ls [.int (b2i (p_in n 1 60))]) rfl ?_
  refine fb_eq (tgt := 23) hx hb dX13_isRhythm_7 (by decide) (fun c_2 => ?_) (fun c_2 => ?_)
  · refine lv_iconst (v := 0) hx hb dX13_isRhythm_23 rfl ?_
    exact fr_z hx hb hr rfl hlocks hX hC () (congrArg (fun z => some (Value.int z)) (b2i_f (by grind))) rfl dX13_isRhythm_24
  · refine lv_iload_n hx hb dX13_isRhythm_10 rfl (lv_at hl 1 rfl) ?_
    refine lv_iconst (v := 0) hx hb dX13_isRhythm_11 rfl ?_
    refine lv_iload_n hx hb dX13_isRhythm_12 rfl (lv_at hl 0 rfl) ?_
    refine fc_S (As := [.int k, .int 0, .int n]) (rest := []) hx hb hml hown hts hX hC (m_X13_within k 0 n) (lw_S q1390 q1391 q124 q1392) hdS_X13_within ⟨rfl, rfl⟩ ⟨Nat.le_of_ble_eq_true rfl, Nat.le_of_ble_eq_true rfl⟩ hl.1 rfl (Nat.le_of_ble_eq_true rfl) ⟨Nat.zero_le _, Nat.zero_le _⟩ dX13_isRhythm_13 (fun _ H locs hC => ?_)
    refine W.eq (g2 := F0 m 16 ls [.int (b2i (p_in k 0 n))]) rfl ?_
    refine fb_eq (tgt := 23) hx hb dX13_isRhythm_16 (by decide) (fun c_4 => ?_) (fun c_4 => ?_)
    · refine lv_iconst (v := 0) hx hb dX13_isRhythm_23 rfl ?_
      exact fr_z hx hb hr rfl hlocks hX hC () (congrArg (fun z => some (Value.int z)) (b2i_f (by grind))) rfl dX13_isRhythm_24
    · refine lv_iconst (v := 1) hx hb dX13_isRhythm_19 rfl ?_
      refine lv_goto (tgt := 24) hx hb dX13_isRhythm_20 (by decide) ?_
      exact fr_z hx hb hr rfl hlocks hX hC () (congrArg (fun z => some (Value.int z)) (b2i_t (by grind))) rfl dX13_isRhythm_24
set_option maxRecDepth 100000 in
theorem m_X13_become {l : Launch} {G : Gm} {d kp as bf sc fd tp it ws sz nu mv : Row} (pl v : Int32) (q : Nat) (hq : ix pl = q) (hin : vp_in pl 124) : Cm l yX13_become (ws_ yX13_become cX13_become 4 (some .int)) ({ frames := 0, cells := 0, slots := 0, locals := 0 }) (mF G) [.ref (G.ad 0 0), .int pl, .int v] (mct G (mpg d kp as bf sc fd tp it ws sz nu mv)) (fun _ : Unit => some (.int (d q))) (fun _ => mct G (mpg (upd d q v) kp as bf sc fd tp it ws sz nu mv)) := by
  refine Cm.start (by decide) (Nat.le_of_ble_eq_true rfl) ?_
  intro p e s m below meth c hf hX hC ls hl
  obtain ⟨hx, hb, hr, hml, hown, hts, hlocks⟩ := hf
  have hl : lv_has ls 4 [(0, .ref (G.ad 0 0)), (1, .int pl), (2, .int v)] := hl
  have hown : s.vm.findClass "OwlEarsModel" = some m.cls := hown
  refine lv_aload_n hx hb dX13_become_0 rfl (lv_at hl 0 rfl) ?_
  refine fg_get (C := RX13) (T := TX13) (N := 24) (ci := 0) (g := 0) (i := 0) (v := .ref (G.ad 0 1)) hx hb hown hts hX hC in_X13 rfl (min_ (by decide)) rfl 0 (by decide) q1310 (fun _ h => h) rfl dX13_become_1 ?_
  refine lv_iload_n hx hb dX13_become_4 rfl (lv_at hl 1 rfl) ?_
  refine fg_iald (g := 0) (i := 1) (t0 := 0) (v := d q) hx hb hX hC (min_ (by decide)) rfl rfl hin (congrArg d hq) dX13_become_5 ?_
  refine lv_istore_n (lv' := [(3, .int (d q)), (0, .ref (G.ad 0 0)), (1, .int pl), (2, .int v)]) hx hb dX13_become_6 rfl hl (by decide) rfl (fun ls hl => ?_)
  refine lv_aload_n hx hb dX13_become_7 rfl (lv_at hl 1 rfl) ?_
  refine fg_get (C := RX13) (T := TX13) (N := 24) (ci := 0) (g := 0) (i := 0) (v := .ref (G.ad 0 1)) hx hb hown hts hX hC in_X13 rfl (min_ (by decide)) rfl 0 (by decide) q1310 (fun _ h => h) rfl dX13_become_8 ?_
  refine lv_iload_n hx hb dX13_become_11 rfl (lv_at hl 2 rfl) ?_
  refine lv_iload_n hx hb dX13_become_12 rfl (lv_at hl 3 rfl) ?_
  refine fg_iast (g := 0) (i := 1) (t0 := 0) hx hb hX hC (min_ (by decide)) rfl rfl hin (mct G (mpg (upd d q v) kp as bf sc fd tp it ws sz nu mv)) (mu mp1 (mst hq)) dX13_become_13 (fun H locs hC => ?_)
  refine lv_iload_n hx hb dX13_become_14 rfl (lv_at hl 0 rfl) ?_
  exact fr_i hx hb hr hlocks hX hC () rfl rfl dX13_become_15
set_option maxRecDepth 100000 in
theorem m_X13_strikeIs_0 {l : Launch} {G : Gm} {d kp as bf sc fd tp it ws sz nu mv : Row} (s0 : Int32) (hk : vp_in s0 8) : Cm l yX13_strikeIs (ws_ yX13_strikeIs cX13_strikeIs 3 (some .int)) ({ frames := 1, cells := 0, slots := 0, locals := 21 }) (mF G) [.ref (G.ad 0 0), .int s0, .int 0] (mct G (mpg d kp as bf sc fd tp it ws sz nu mv)) (fun _ : Unit => some (.int (d (92 + 4 * ix s0)))) (fun _ => mct G (mpg d kp as bf sc fd tp it ws sz nu mv)) := by
  refine Cm.start (by decide) (Nat.le_of_ble_eq_true rfl) ?_
  intro p e s m below meth c hf hX hC ls hl
  obtain ⟨hx, hb, hr, hml, hown, hts, hlocks⟩ := hf
  have hl : lv_has ls 3 [(0, .ref (G.ad 0 0)), (1, .int s0), (2, .int 0)] := hl
  have hown : s.vm.findClass "OwlEarsModel" = some m.cls := hown
  refine lv_aload_n hx hb dX13_strikeIs_0 rfl (lv_at hl 0 rfl) ?_
  refine fg_get (C := RX13) (T := TX13) (N := 24) (ci := 0) (g := 0) (i := 0) (v := .ref (G.ad 0 1)) hx hb hown hts hX hC in_X13 rfl (min_ (by decide)) rfl 0 (by decide) q1310 (fun _ h => h) rfl dX13_strikeIs_1 ?_
  refine lv_iload_n hx hb dX13_strikeIs_4 rfl (lv_at hl 1 rfl) ?_
  refine lv_iload_n hx hb dX13_strikeIs_5 rfl (lv_at hl 2 rfl) ?_
  refine fc_S (As := [.int s0, .int 0]) (rest := [.ref (G.ad 0 1)]) hx hb hml hown hts hX hC (m_X13_place s0 0) (lw_S q1460 q1461 q124 q1462) hdS_X13_place ⟨rfl, rfl⟩ ⟨Nat.le_of_ble_eq_true rfl, Nat.le_of_ble_eq_true rfl⟩ hl.1 rfl (Nat.le_of_ble_eq_true rfl) ⟨Nat.zero_le _, Nat.zero_le _⟩ dX13_strikeIs_6 (fun _ H locs hC => ?_)
  refine W.eq (g2 := F0 m 9 ls [.int (92 + 4 * s0 + 0), .ref (G.ad 0 1)]) rfl ?_
  refine fg_iald (g := 0) (i := 1) (t0 := 0) (v := d (92 + 4 * ix s0)) hx hb hX hC (min_ (by decide)) rfl rfl (vinpl 0 hk (by decide)) (congrArg d (ixpl 0 hk (by decide))) dX13_strikeIs_9 ?_
  exact fr_i hx hb hr hlocks hX hC () rfl rfl dX13_strikeIs_10
set_option maxRecDepth 100000 in
theorem m_X13_strikeIs_1 {l : Launch} {G : Gm} {d kp as bf sc fd tp it ws sz nu mv : Row} (s0 : Int32) (hk : vp_in s0 8) : Cm l yX13_strikeIs (ws_ yX13_strikeIs cX13_strikeIs 3 (some .int)) ({ frames := 1, cells := 0, slots := 0, locals := 21 }) (mF G) [.ref (G.ad 0 0), .int s0, .int 1] (mct G (mpg d kp as bf sc fd tp it ws sz nu mv)) (fun _ : Unit => some (.int (d (93 + 4 * ix s0)))) (fun _ => mct G (mpg d kp as bf sc fd tp it ws sz nu mv)) := by
  refine Cm.start (by decide) (Nat.le_of_ble_eq_true rfl) ?_
  intro p e s m below meth c hf hX hC ls hl
  obtain ⟨hx, hb, hr, hml, hown, hts, hlocks⟩ := hf
  have hl : lv_has ls 3 [(0, .ref (G.ad 0 0)), (1, .int s0), (2, .int 1)] := hl
  have hown : s.vm.findClass "OwlEarsModel" = some m.cls := hown
  refine lv_aload_n hx hb dX13_strikeIs_0 rfl (lv_at hl 0 rfl) ?_
  refine fg_get (C := RX13) (T := TX13) (N := 24) (ci := 0) (g := 0) (i := 0) (v := .ref (G.ad 0 1)) hx hb hown hts hX hC in_X13 rfl (min_ (by decide)) rfl 0 (by decide) q1310 (fun _ h => h) rfl dX13_strikeIs_1 ?_
  refine lv_iload_n hx hb dX13_strikeIs_4 rfl (lv_at hl 1 rfl) ?_
  refine lv_iload_n hx hb dX13_strikeIs_5 rfl (lv_at hl 2 rfl) ?_
  refine fc_S (As := [.int s0, .int 1]) (rest := [.ref (G.ad 0 1)]) hx hb hml hown hts hX hC (m_X13_place s0 1) (lw_S q1460 q1461 q124 q1462) hdS_X13_place ⟨rfl, rfl⟩ ⟨Nat.le_of_ble_eq_true rfl, Nat.le_of_ble_eq_true rfl⟩ hl.1 rfl (Nat.le_of_ble_eq_true rfl) ⟨Nat.zero_le _, Nat.zero_le _⟩ dX13_strikeIs_6 (fun _ H locs hC => ?_)
  refine W.eq (g2 := F0 m 9 ls [.int (92 + 4 * s0 + 1), .ref (G.ad 0 1)]) rfl ?_
  refine fg_iald (g := 0) (i := 1) (t0 := 0) (v := d (93 + 4 * ix s0)) hx hb hX hC (min_ (by decide)) rfl rfl (vinpl 1 hk (by decide)) (congrArg d (ixpl 1 hk (by decide))) dX13_strikeIs_9 ?_
  exact fr_i hx hb hr hlocks hX hC () rfl rfl dX13_strikeIs_10
set_option maxRecDepth 100000 in
theorem m_X13_strikeIs_2 {l : Launch} {G : Gm} {d kp as bf sc fd tp it ws sz nu mv : Row} (s0 : Int32) (hk : vp_in s0 8) : Cm l yX13_strikeIs (ws_ yX13_strikeIs cX13_strikeIs 3 (some .int)) ({ frames := 1, cells := 0, slots := 0, locals := 21 }) (mF G) [.ref (G.ad 0 0), .int s0, .int 2] (mct G (mpg d kp as bf sc fd tp it ws sz nu mv)) (fun _ : Unit => some (.int (d (94 + 4 * ix s0)))) (fun _ => mct G (mpg d kp as bf sc fd tp it ws sz nu mv)) := by
  refine Cm.start (by decide) (Nat.le_of_ble_eq_true rfl) ?_
  intro p e s m below meth c hf hX hC ls hl
  obtain ⟨hx, hb, hr, hml, hown, hts, hlocks⟩ := hf
  have hl : lv_has ls 3 [(0, .ref (G.ad 0 0)), (1, .int s0), (2, .int 2)] := hl
  have hown : s.vm.findClass "OwlEarsModel" = some m.cls := hown
  refine lv_aload_n hx hb dX13_strikeIs_0 rfl (lv_at hl 0 rfl) ?_
  refine fg_get (C := RX13) (T := TX13) (N := 24) (ci := 0) (g := 0) (i := 0) (v := .ref (G.ad 0 1)) hx hb hown hts hX hC in_X13 rfl (min_ (by decide)) rfl 0 (by decide) q1310 (fun _ h => h) rfl dX13_strikeIs_1 ?_
  refine lv_iload_n hx hb dX13_strikeIs_4 rfl (lv_at hl 1 rfl) ?_
  refine lv_iload_n hx hb dX13_strikeIs_5 rfl (lv_at hl 2 rfl) ?_
  refine fc_S (As := [.int s0, .int 2]) (rest := [.ref (G.ad 0 1)]) hx hb hml hown hts hX hC (m_X13_place s0 2) (lw_S q1460 q1461 q124 q1462) hdS_X13_place ⟨rfl, rfl⟩ ⟨Nat.le_of_ble_eq_true rfl, Nat.le_of_ble_eq_true rfl⟩ hl.1 rfl (Nat.le_of_ble_eq_true rfl) ⟨Nat.zero_le _, Nat.zero_le _⟩ dX13_strikeIs_6 (fun _ H locs hC => ?_)
  refine W.eq (g2 := F0 m 9 ls [.int (92 + 4 * s0 + 2), .ref (G.ad 0 1)]) rfl ?_
  refine fg_iald (g := 0) (i := 1) (t0 := 0) (v := d (94 + 4 * ix s0)) hx hb hX hC (min_ (by decide)) rfl rfl (vinpl 2 hk (by decide)) (congrArg d (ixpl 2 hk (by decide))) dX13_strikeIs_9 ?_
  exact fr_i hx hb hr hlocks hX hC () rfl rfl dX13_strikeIs_10
set_option maxRecDepth 100000 in
theorem m_X13_strikeIs_3 {l : Launch} {G : Gm} {d kp as bf sc fd tp it ws sz nu mv : Row} (s0 : Int32) (hk : vp_in s0 8) : Cm l yX13_strikeIs (ws_ yX13_strikeIs cX13_strikeIs 3 (some .int)) ({ frames := 1, cells := 0, slots := 0, locals := 21 }) (mF G) [.ref (G.ad 0 0), .int s0, .int 3] (mct G (mpg d kp as bf sc fd tp it ws sz nu mv)) (fun _ : Unit => some (.int (d (95 + 4 * ix s0)))) (fun _ => mct G (mpg d kp as bf sc fd tp it ws sz nu mv)) := by
  refine Cm.start (by decide) (Nat.le_of_ble_eq_true rfl) ?_
  intro p e s m below meth c hf hX hC ls hl
  obtain ⟨hx, hb, hr, hml, hown, hts, hlocks⟩ := hf
  have hl : lv_has ls 3 [(0, .ref (G.ad 0 0)), (1, .int s0), (2, .int 3)] := hl
  have hown : s.vm.findClass "OwlEarsModel" = some m.cls := hown
  refine lv_aload_n hx hb dX13_strikeIs_0 rfl (lv_at hl 0 rfl) ?_
  refine fg_get (C := RX13) (T := TX13) (N := 24) (ci := 0) (g := 0) (i := 0) (v := .ref (G.ad 0 1)) hx hb hown hts hX hC in_X13 rfl (min_ (by decide)) rfl 0 (by decide) q1310 (fun _ h => h) rfl dX13_strikeIs_1 ?_
  refine lv_iload_n hx hb dX13_strikeIs_4 rfl (lv_at hl 1 rfl) ?_
  refine lv_iload_n hx hb dX13_strikeIs_5 rfl (lv_at hl 2 rfl) ?_
  refine fc_S (As := [.int s0, .int 3]) (rest := [.ref (G.ad 0 1)]) hx hb hml hown hts hX hC (m_X13_place s0 3) (lw_S q1460 q1461 q124 q1462) hdS_X13_place ⟨rfl, rfl⟩ ⟨Nat.le_of_ble_eq_true rfl, Nat.le_of_ble_eq_true rfl⟩ hl.1 rfl (Nat.le_of_ble_eq_true rfl) ⟨Nat.zero_le _, Nat.zero_le _⟩ dX13_strikeIs_6 (fun _ H locs hC => ?_)
  refine W.eq (g2 := F0 m 9 ls [.int (92 + 4 * s0 + 3), .ref (G.ad 0 1)]) rfl ?_
  refine fg_iald (g := 0) (i := 1) (t0 := 0) (v := d (95 + 4 * ix s0)) hx hb hX hC (min_ (by decide)) rfl rfl (vinpl 3 hk (by decide)) (congrArg d (ixpl 3 hk (by decide))) dX13_strikeIs_9 ?_
  exact fr_i hx hb hr hlocks hX hC () rfl rfl dX13_strikeIs_10
set_option maxRecDepth 100000 in
theorem m_X13_isRunning {l : Launch} {G : Gm} {d kp as bf sc fd tp it ws sz nu mv : Row}  : Cm l yX13_isRunning (ws_ yX13_isRunning cX13_isRunning 1 (some .boolean)) ({ frames := 0, cells := 0, slots := 0, locals := 0 }) (mF G) [.ref (G.ad 0 0)] (mct G (mpg d kp as bf sc fd tp it ws sz nu mv)) (fun _ : Unit => some (.int (b2i (p_run d)))) (fun _ => mct G (mpg d kp as bf sc fd tp it ws sz nu mv)) := by
  refine Cm.start (by decide) (Nat.le_of_ble_eq_true rfl) ?_
  intro p e s m below meth c hf hX hC ls hl
  obtain ⟨hx, hb, hr, hml, hown, hts, hlocks⟩ := hf
  have hl : lv_has ls 1 [(0, .ref (G.ad 0 0))] := hl
  have hown : s.vm.findClass "OwlEarsModel" = some m.cls := hown
  refine lv_aload_n hx hb dX13_isRunning_0 rfl (lv_at hl 0 rfl) ?_
  refine fg_get (C := RX13) (T := TX13) (N := 24) (ci := 0) (g := 0) (i := 0) (v := .ref (G.ad 0 1)) hx hb hown hts hX hC in_X13 rfl (min_ (by decide)) rfl 0 (by decide) q1310 (fun _ h => h) rfl dX13_isRunning_1 ?_
  refine lv_bipush (v := 7) hx hb dX13_isRunning_4 rfl ?_
  refine fg_iald (g := 0) (i := 1) (t0 := 0) (v := d 7) hx hb hX hC (min_ (by decide)) rfl rfl (vin_b rfl) rfl dX13_isRunning_6 ?_
  refine lv_aload_n hx hb dX13_isRunning_7 rfl (lv_at hl 0 rfl) ?_
  refine fg_get (C := RX13) (T := TX13) (N := 24) (ci := 0) (g := 0) (i := 0) (v := .ref (G.ad 0 1)) hx hb hown hts hX hC in_X13 rfl (min_ (by decide)) rfl 0 (by decide) q1310 (fun _ h => h) rfl dX13_isRunning_8 ?_
  refine lv_iconst (v := 5) hx hb dX13_isRunning_11 rfl ?_
  refine fg_iald (g := 0) (i := 1) (t0 := 0) (v := d 5) hx hb hX hC (min_ (by decide)) rfl rfl (vin_b rfl) rfl dX13_isRunning_12 ?_
  refine fj_ge (tgt := 20) hx hb dX13_isRunning_13 (by decide) (fun c_1 => ?_) (fun c_1 => ?_)
  · refine lv_iconst (v := 0) hx hb dX13_isRunning_20 rfl ?_
    exact fr_z hx hb hr rfl hlocks hX hC () (congrArg (fun z => some (Value.int z)) (b2i_f (by first | rfl | (simp [c_1])))) rfl dX13_isRunning_21
  · refine lv_iconst (v := 1) hx hb dX13_isRunning_16 rfl ?_
    refine lv_goto (tgt := 21) hx hb dX13_isRunning_17 (by decide) ?_
    exact fr_z hx hb hr rfl hlocks hX hC () (congrArg (fun z => some (Value.int z)) (b2i_t (by first | rfl | (simp [c_1])))) rfl dX13_isRunning_21
set_option maxRecDepth 100000 in
theorem m_X13_loud {l : Launch} {G : Gm} {d kp as bf sc fd tp it ws sz nu mv : Row} (hw : WF d)  : Cm l yX13_loud (ws_ yX13_loud cX13_loud 1 (some .int)) ({ frames := 1, cells := 0, slots := 0, locals := 20 }) (mF G) [.ref (G.ad 0 0)] (mct G (mpg d kp as bf sc fd tp it ws sz nu mv)) (fun _ : Unit => some (.int (p_loud d))) (fun _ => mct G (mpg d kp as bf sc fd tp it ws sz nu mv)) := by
  refine Cm.start (by decide) (Nat.le_of_ble_eq_true rfl) ?_
  intro p e s m below meth c hf hX hC ls hl
  obtain ⟨hx, hb, hr, hml, hown, hts, hlocks⟩ := hf
  have hl : lv_has ls 1 [(0, .ref (G.ad 0 0))] := hl
  have hown : s.vm.findClass "OwlEarsModel" = some m.cls := hown
  refine lv_iconst (v := 0) hx hb dX13_loud_0 rfl ?_
  refine lv_aload_n hx hb dX13_loud_1 rfl (lv_at hl 0 rfl) ?_
  refine fc_V (As := []) (rest := [.int 0]) hx hb hml hown hts hX hC (m_X13_isRunning) (lw_V q1420 q1422 qs59 q124 q1423) hdV_X13_isRunning ⟨rfl, rfl⟩ ⟨Nat.le_of_ble_eq_true rfl, Nat.le_of_ble_eq_true rfl⟩ (fx_recv (g := 0) (i := 0) (ci := 0) (q := (RX13, TX13, 24)) hX hC (min_ (by decide)) rfl rfl) hl.1 rfl (Nat.le_of_ble_eq_true rfl) ⟨Nat.zero_le _, Nat.zero_le _⟩ dX13_loud_2 (fun _ H locs hC => ?_)
  refine W.eq (g2 := F0 m 5 ls [.int (b2i (p_run d)), .int 0]) rfl ?_
  refine fw_join (C := p_run d) (a := 30) (b := 2) (pcj := 14) (ls := ls) (rest := [.int 0]) (fun ja jb => ?_) ?_
  · refine fb_eq (tgt := 13) hx hb dX13_loud_5 (by decide) (fun c_2 => ?_) (fun c_2 => ?_)
    · refine lv_iconst (v := 2) hx hb dX13_loud_13 rfl ?_
      exact jb c_2
    · refine lv_bipush (v := 30) hx hb dX13_loud_8 rfl ?_
      refine lv_goto (tgt := 14) hx hb dX13_loud_10 (by decide) ?_
      exact ja c_2
  refine lv_aload_n hx hb dX13_loud_14 rfl (lv_at hl 0 rfl) ?_
  refine fg_get (C := RX13) (T := TX13) (N := 24) (ci := 0) (g := 0) (i := 0) (v := .ref (G.ad 0 1)) hx hb hown hts hX hC in_X13 rfl (min_ (by decide)) rfl 0 (by decide) q1310 (fun _ h => h) rfl dX13_loud_15 ?_
  refine lv_bipush (v := 20) hx hb dX13_loud_18 rfl ?_
  refine lv_aload_n hx hb dX13_loud_20 rfl (lv_at hl 0 rfl) ?_
  refine fg_get (C := RX13) (T := TX13) (N := 24) (ci := 0) (g := 0) (i := 0) (v := .ref (G.ad 0 1)) hx hb hown hts hX hC in_X13 rfl (min_ (by decide)) rfl 0 (by decide) q1310 (fun _ h => h) rfl dX13_loud_21 ?_
  refine lv_iconst (v := 3) hx hb dX13_loud_24 rfl ?_
  refine fg_iald (g := 0) (i := 1) (t0 := 0) (v := d 3) hx hb hX hC (min_ (by decide)) rfl rfl (vin_b rfl) rfl dX13_loud_25 ?_
  refine lv_iadd hx hb dX13_loud_26 ?_
  refine fg_iald (g := 0) (i := 1) (t0 := 0) (v := d (20 + ix (d 3))) hx hb hX hC (min_ (by decide)) rfl rfl (vinp 20 hw.mouse (by decide) (by decide)) (congrArg d (ixp 20 hw.mouse (by decide))) dX13_loud_27 ?_
  refine lv_isub hx hb dX13_loud_28 ?_
  refine fw_max hx hb (hml.trans hl.1.symm) hown hts q1424 (Nat.le_of_ble_eq_true rfl) (Nat.le_of_ble_eq_true rfl) (Nat.zero_le _) (Nat.zero_le _) q494 q125 q495 dX13_loud_29 ?_
  exact fr_i hx hb hr hlocks hX hC () (congrArg (fun z => some (Value.int z)) (rfl)) rfl dX13_loud_32
set_option maxRecDepth 100000 in
theorem m_X13_loudAt {l : Launch} {G : Gm} {d kp as bf sc fd tp it ws sz nu mv : Row} (hw : WF d) (c0 : Int32) : Cm l yX13_loudAt (ws_ yX13_loudAt cX13_loudAt 2 (some .int)) ({ frames := 2, cells := 0, slots := 0, locals := 40 }) (mF G) [.ref (G.ad 0 0), .int c0] (mct G (mpg d kp as bf sc fd tp it ws sz nu mv)) (fun _ : Unit => some (.int (p_loudAt d c0))) (fun _ => mct G (mpg d kp as bf sc fd tp it ws sz nu mv)) := by
  refine Cm.start (by decide) (Nat.le_of_ble_eq_true rfl) ?_
  intro p e s m below meth c hf hX hC ls hl
  obtain ⟨hx, hb, hr, hml, hown, hts, hlocks⟩ := hf
  have hl : lv_has ls 2 [(0, .ref (G.ad 0 0)), (1, .int c0)] := hl
  have hown : s.vm.findClass "OwlEarsModel" = some m.cls := hown
  refine lv_aload_n hx hb dX13_loudAt_0 rfl (lv_at hl 0 rfl) ?_
  refine fc_V (As := []) (rest := []) hx hb hml hown hts hX hC (m_X13_loud hw) (lw_V q1416 q1418 qs58 q124 q1419) hdV_X13_loud ⟨rfl, rfl⟩ ⟨Nat.le_of_ble_eq_true rfl, Nat.le_of_ble_eq_true rfl⟩ (fx_recv (g := 0) (i := 0) (ci := 0) (q := (RX13, TX13, 24)) hX hC (min_ (by decide)) rfl rfl) hl.1 rfl (Nat.le_of_ble_eq_true rfl) ⟨Nat.zero_le _, Nat.zero_le _⟩ dX13_loudAt_1 (fun _ H locs hC => ?_)
  refine W.eq (g2 := F0 m 4 ls [.int (p_loud d)]) rfl ?_
  refine lv_iconst (v := 3) hx hb dX13_loudAt_4 rfl ?_
  refine lv_aload_n hx hb dX13_loudAt_5 rfl (lv_at hl 0 rfl) ?_
  refine fg_get (C := RX13) (T := TX13) (N := 24) (ci := 0) (g := 0) (i := 0) (v := .ref (G.ad 0 1)) hx hb hown hts hX hC in_X13 rfl (min_ (by decide)) rfl 0 (by decide) q1310 (fun _ h => h) rfl dX13_loudAt_6 ?_
  refine lv_iconst (v := 3) hx hb dX13_loudAt_9 rfl ?_
  refine fg_iald (g := 0) (i := 1) (t0 := 0) (v := d 3) hx hb hX hC (min_ (by decide)) rfl rfl (vin_b rfl) rfl dX13_loudAt_10 ?_
  refine lv_iload_n hx hb dX13_loudAt_11 rfl (lv_at hl 1 rfl) ?_
  refine fc_S (As := [.int (d 3), .int c0]) (rest := [.int 3, .int (p_loud d)]) hx hb hml hown hts hX hC (m_X13_apart (d 3) c0) (lw_S q1425 q1426 q124 q1427) hdS_X13_apart ⟨rfl, rfl⟩ ⟨Nat.le_of_ble_eq_true rfl, Nat.le_of_ble_eq_true rfl⟩ hl.1 rfl (Nat.le_of_ble_eq_true rfl) ⟨Nat.zero_le _, Nat.zero_le _⟩ dX13_loudAt_12 (fun _ H locs hC => ?_)
  refine W.eq (g2 := F0 m 15 ls [.int (p_apart (d 3) c0), .int 3, .int (p_loud d)]) rfl ?_
  refine lv_imul hx hb dX13_loudAt_15 ?_
  refine lv_isub hx hb dX13_loudAt_16 ?_
  exact fr_i hx hb hr hlocks hX hC () (congrArg (fun z => some (Value.int z)) (by rw [p_loudAt, p_apart_comm c0])) rfl dX13_loudAt_17
set_option maxRecDepth 100000 in
theorem m_X13_side {l : Launch} {G : Gm} {d kp as bf sc fd tp it ws sz nu mv : Row}  : Cm l yX13_side (ws_ yX13_side cX13_side 1 (some .int)) ({ frames := 1, cells := 0, slots := 0, locals := 20 }) (mF G) [.ref (G.ad 0 0)] (mct G (mpg d kp as bf sc fd tp it ws sz nu mv)) (fun _ : Unit => some (.int (p_side d))) (fun _ => mct G (mpg d kp as bf sc fd tp it ws sz nu mv)) := by
  refine Cm.start (by decide) (Nat.le_of_ble_eq_true rfl) ?_
  intro p e s m below meth c hf hX hC ls hl
  obtain ⟨hx, hb, hr, hml, hown, hts, hlocks⟩ := hf
  have hl : lv_has ls 1 [(0, .ref (G.ad 0 0))] := hl
  have hown : s.vm.findClass "OwlEarsModel" = some m.cls := hown
  refine lv_aload_n hx hb dX13_side_0 rfl (lv_at hl 0 rfl) ?_
  refine fg_get (C := RX13) (T := TX13) (N := 24) (ci := 0) (g := 0) (i := 0) (v := .ref (G.ad 0 1)) hx hb hown hts hX hC in_X13 rfl (min_ (by decide)) rfl 0 (by decide) q1310 (fun _ h => h) rfl dX13_side_1 ?_
  refine lv_iconst (v := 3) hx hb dX13_side_4 rfl ?_
  refine fg_iald (g := 0) (i := 1) (t0 := 0) (v := d 3) hx hb hX hC (min_ (by decide)) rfl rfl (vin_b rfl) rfl dX13_side_5 ?_
  refine lv_bipush (v := 6) hx hb dX13_side_6 rfl ?_
  refine fw_irem hx hb dX13_side_8 (by decide) ?_
  refine lv_aload_n hx hb dX13_side_9 rfl (lv_at hl 0 rfl) ?_
  refine fg_get (C := RX13) (T := TX13) (N := 24) (ci := 0) (g := 0) (i := 0) (v := .ref (G.ad 0 1)) hx hb hown hts hX hC in_X13 rfl (min_ (by decide)) rfl 0 (by decide) q1310 (fun _ h => h) rfl dX13_side_10 ?_
  refine lv_bipush (v := 8) hx hb dX13_side_13 rfl ?_
  refine fg_iald (g := 0) (i := 1) (t0 := 0) (v := d 8) hx hb hX hC (min_ (by decide)) rfl rfl (vin_b rfl) rfl dX13_side_15 ?_
  refine lv_bipush (v := 6) hx hb dX13_side_16 rfl ?_
  refine fw_irem hx hb dX13_side_18 (by decide) ?_
  refine lv_isub hx hb dX13_side_19 ?_
  refine fc_S (As := [.int ((rm (d 3) 6) - (rm (d 8) 6))]) (rest := []) hx hb hml hown hts hX hC (m_X13_sign ((rm (d 3) 6) - (rm (d 8) 6))) (lw_S q1547 q1548 q124 q1549) hdS_X13_sign ⟨rfl, rfl⟩ ⟨Nat.le_of_ble_eq_true rfl, Nat.le_of_ble_eq_true rfl⟩ hl.1 rfl (Nat.le_of_ble_eq_true rfl) ⟨Nat.zero_le _, Nat.zero_le _⟩ dX13_side_20 (fun _ H locs hC => ?_)
  refine W.eq (g2 := F0 m 23 ls [.int (sgn ((rm (d 3) 6) - (rm (d 8) 6)))]) rfl ?_
  exact fr_i hx hb hr hlocks hX hC () (congrArg (fun z => some (Value.int z)) (by first | rfl | (simp []))) rfl dX13_side_23
set_option maxRecDepth 100000 in
theorem m_X13_high {l : Launch} {G : Gm} {d kp as bf sc fd tp it ws sz nu mv : Row}  : Cm l yX13_high (ws_ yX13_high cX13_high 1 (some .int)) ({ frames := 1, cells := 0, slots := 0, locals := 20 }) (mF G) [.ref (G.ad 0 0)] (mct G (mpg d kp as bf sc fd tp it ws sz nu mv)) (fun _ : Unit => some (.int (p_high d))) (fun _ => mct G (mpg d kp as bf sc fd tp it ws sz nu mv)) := by
  refine Cm.start (by decide) (Nat.le_of_ble_eq_true rfl) ?_
  intro p e s m below meth c hf hX hC ls hl
  obtain ⟨hx, hb, hr, hml, hown, hts, hlocks⟩ := hf
  have hl : lv_has ls 1 [(0, .ref (G.ad 0 0))] := hl
  have hown : s.vm.findClass "OwlEarsModel" = some m.cls := hown
  refine lv_aload_n hx hb dX13_high_0 rfl (lv_at hl 0 rfl) ?_
  refine fg_get (C := RX13) (T := TX13) (N := 24) (ci := 0) (g := 0) (i := 0) (v := .ref (G.ad 0 1)) hx hb hown hts hX hC in_X13 rfl (min_ (by decide)) rfl 0 (by decide) q1310 (fun _ h => h) rfl dX13_high_1 ?_
  refine lv_iconst (v := 3) hx hb dX13_high_4 rfl ?_
  refine fg_iald (g := 0) (i := 1) (t0 := 0) (v := d 3) hx hb hX hC (min_ (by decide)) rfl rfl (vin_b rfl) rfl dX13_high_5 ?_
  refine lv_bipush (v := 6) hx hb dX13_high_6 rfl ?_
  refine lv_idiv hx hb dX13_high_8 (by decide) ?_
  refine lv_aload_n hx hb dX13_high_9 rfl (lv_at hl 0 rfl) ?_
  refine fg_get (C := RX13) (T := TX13) (N := 24) (ci := 0) (g := 0) (i := 0) (v := .ref (G.ad 0 1)) hx hb hown hts hX hC in_X13 rfl (min_ (by decide)) rfl 0 (by decide) q1310 (fun _ h => h) rfl dX13_high_10 ?_
  refine lv_bipush (v := 8) hx hb dX13_high_13 rfl ?_
  refine fg_iald (g := 0) (i := 1) (t0 := 0) (v := d 8) hx hb hX hC (min_ (by decide)) rfl rfl (vin_b rfl) rfl dX13_high_15 ?_
  refine lv_bipush (v := 6) hx hb dX13_high_16 rfl ?_
  refine lv_idiv hx hb dX13_high_18 (by decide) ?_
  refine lv_isub hx hb dX13_high_19 ?_
  refine fc_S (As := [.int (((d 3) / 6) - ((d 8) / 6))]) (rest := []) hx hb hml hown hts hX hC (m_X13_sign (((d 3) / 6) - ((d 8) / 6))) (lw_S q1547 q1548 q124 q1549) hdS_X13_sign ⟨rfl, rfl⟩ ⟨Nat.le_of_ble_eq_true rfl, Nat.le_of_ble_eq_true rfl⟩ hl.1 rfl (Nat.le_of_ble_eq_true rfl) ⟨Nat.zero_le _, Nat.zero_le _⟩ dX13_high_20 (fun _ H locs hC => ?_)
  refine W.eq (g2 := F0 m 23 ls [.int (sgn (((d 3) / 6) - ((d 8) / 6)))]) rfl ?_
  exact fr_i hx hb hr hlocks hX hC () (congrArg (fun z => some (Value.int z)) (by first | rfl | (simp []))) rfl dX13_high_23
set_option maxRecDepth 100000 in
theorem m_X13_isAhead {l : Launch} {G : Gm} {d kp as bf sc fd tp it ws sz nu mv : Row}  : Cm l yX13_isAhead (ws_ yX13_isAhead cX13_isAhead 2 (some .boolean)) ({ frames := 2, cells := 0, slots := 0, locals := 40 }) (mF G) [.ref (G.ad 0 0)] (mct G (mpg d kp as bf sc fd tp it ws sz nu mv)) (fun _ : Unit => some (.int (b2i (p_ahead d)))) (fun _ => mct G (mpg d kp as bf sc fd tp it ws sz nu mv)) := by
  refine Cm.start (by decide) (Nat.le_of_ble_eq_true rfl) ?_
  intro p e s m below meth c hf hX hC ls hl
  obtain ⟨hx, hb, hr, hml, hown, hts, hlocks⟩ := hf
  have hl : lv_has ls 2 [(0, .ref (G.ad 0 0))] := hl
  have hown : s.vm.findClass "OwlEarsModel" = some m.cls := hown
  refine lv_aload_n hx hb dX13_isAhead_0 rfl (lv_at hl 0 rfl) ?_
  refine fg_get (C := RX13) (T := TX13) (N := 24) (ci := 0) (g := 0) (i := 0) (v := .ref (G.ad 0 1)) hx hb hown hts hX hC in_X13 rfl (min_ (by decide)) rfl 0 (by decide) q1310 (fun _ h => h) rfl dX13_isAhead_1 ?_
  refine lv_bipush (v := 9) hx hb dX13_isAhead_4 rfl ?_
  refine fg_iald (g := 0) (i := 1) (t0 := 0) (v := d 9) hx hb hX hC (min_ (by decide)) rfl rfl (vin_b rfl) rfl dX13_isAhead_6 ?_
  refine lv_istore_n (lv' := [(1, .int (d 9)), (0, .ref (G.ad 0 0))]) hx hb dX13_isAhead_7 rfl hl (by decide) rfl (fun ls hl => ?_)
  refine lv_iload_n hx hb dX13_isAhead_8 rfl (lv_at hl 0 rfl) ?_
  refine lv_if_ne (tgt := 27) hx hb dX13_isAhead_9 (by decide) (fun c_1 => ?_) (fun c_1 => ?_)
  · refine lv_iload_n hx hb dX13_isAhead_27 rfl (lv_at hl 0 rfl) ?_
    refine lv_iconst (v := 1) hx hb dX13_isAhead_28 rfl ?_
    refine lv_icmp_ne (tgt := 47) hx hb dX13_isAhead_29 (by decide) (fun c_2 => ?_) (fun c_2 => ?_)
    · refine lv_iload_n hx hb dX13_isAhead_47 rfl (lv_at hl 0 rfl) ?_
      refine lv_iconst (v := 2) hx hb dX13_isAhead_48 rfl ?_
      refine lv_icmp_ne (tgt := 67) hx hb dX13_isAhead_49 (by decide) (fun c_3 => ?_) (fun c_3 => ?_)
      · refine lv_aload_n hx hb dX13_isAhead_67 rfl (lv_at hl 1 rfl) ?_
        refine fc_V (As := []) (rest := []) hx hb hml hown hts hX hC (m_X13_side) (lw_V q1550 q1552 qs75 q124 q1553) hdV_X13_side ⟨rfl, rfl⟩ ⟨Nat.le_of_ble_eq_true rfl, Nat.le_of_ble_eq_true rfl⟩ (fx_recv (g := 0) (i := 0) (ci := 0) (q := (RX13, TX13, 24)) hX hC (min_ (by decide)) rfl rfl) hl.1 rfl (Nat.le_of_ble_eq_true rfl) ⟨Nat.zero_le _, Nat.zero_le _⟩ dX13_isAhead_68 (fun _ H locs hC => ?_)
        refine W.eq (g2 := F0 m 71 ls [.int (p_side d)]) rfl ?_
        refine fi_ge (tgt := 78) hx hb dX13_isAhead_71 (by decide) (fun c_5 => ?_) (fun c_5 => ?_)
        · refine lv_iconst (v := 0) hx hb dX13_isAhead_78 rfl ?_
          exact fr_z hx hb hr rfl hlocks hX hC () (congrArg (fun z => some (Value.int z)) (b2i_f (by first | rfl | (simp [p_ahead, c_1, c_2, c_3, c_5])))) rfl dX13_isAhead_79
        · refine lv_iconst (v := 1) hx hb dX13_isAhead_74 rfl ?_
          refine lv_goto (tgt := 79) hx hb dX13_isAhead_75 (by decide) ?_
          exact fr_z hx hb hr rfl hlocks hX hC () (congrArg (fun z => some (Value.int z)) (b2i_t (by first | rfl | (simp [p_ahead, c_1, c_2, c_3, c_5])))) rfl dX13_isAhead_79
      · refine lv_aload_n hx hb dX13_isAhead_52 rfl (lv_at hl 1 rfl) ?_
        refine fc_V (As := []) (rest := []) hx hb hml hown hts hX hC (m_X13_high) (lw_V q1543 q1545 qs74 q124 q1546) hdV_X13_high ⟨rfl, rfl⟩ ⟨Nat.le_of_ble_eq_true rfl, Nat.le_of_ble_eq_true rfl⟩ (fx_recv (g := 0) (i := 0) (ci := 0) (q := (RX13, TX13, 24)) hX hC (min_ (by decide)) rfl rfl) hl.1 rfl (Nat.le_of_ble_eq_true rfl) ⟨Nat.zero_le _, Nat.zero_le _⟩ dX13_isAhead_53 (fun _ H locs hC => ?_)
        refine W.eq (g2 := F0 m 56 ls [.int (p_high d)]) rfl ?_
        refine fi_le (tgt := 63) hx hb dX13_isAhead_56 (by decide) (fun c_7 => ?_) (fun c_7 => ?_)
        · refine lv_iconst (v := 0) hx hb dX13_isAhead_63 rfl ?_
          refine lv_goto (tgt := 79) hx hb dX13_isAhead_64 (by decide) ?_
          exact fr_z hx hb hr rfl hlocks hX hC () (congrArg (fun z => some (Value.int z)) (b2i_f (by first | rfl | (simp [p_ahead, c_1, c_2, c_3, c_7])))) rfl dX13_isAhead_79
        · refine lv_iconst (v := 1) hx hb dX13_isAhead_59 rfl ?_
          refine lv_goto (tgt := 79) hx hb dX13_isAhead_60 (by decide) ?_
          exact fr_z hx hb hr rfl hlocks hX hC () (congrArg (fun z => some (Value.int z)) (b2i_t (by first | rfl | (simp [p_ahead, c_1, c_2, c_3, c_7])))) rfl dX13_isAhead_79
    · refine lv_aload_n hx hb dX13_isAhead_32 rfl (lv_at hl 1 rfl) ?_
      refine fc_V (As := []) (rest := []) hx hb hml hown hts hX hC (m_X13_side) (lw_V q1550 q1552 qs75 q124 q1553) hdV_X13_side ⟨rfl, rfl⟩ ⟨Nat.le_of_ble_eq_true rfl, Nat.le_of_ble_eq_true rfl⟩ (fx_recv (g := 0) (i := 0) (ci := 0) (q := (RX13, TX13, 24)) hX hC (min_ (by decide)) rfl rfl) hl.1 rfl (Nat.le_of_ble_eq_true rfl) ⟨Nat.zero_le _, Nat.zero_le _⟩ dX13_isAhead_33 (fun _ H locs hC => ?_)
      refine W.eq (g2 := F0 m 36 ls [.int (p_side d)]) rfl ?_
      refine fi_le (tgt := 43) hx hb dX13_isAhead_36 (by decide) (fun c_9 => ?_) (fun c_9 => ?_)
      · refine lv_iconst (v := 0) hx hb dX13_isAhead_43 rfl ?_
        refine lv_goto (tgt := 79) hx hb dX13_isAhead_44 (by decide) ?_
        exact fr_z hx hb hr rfl hlocks hX hC () (congrArg (fun z => some (Value.int z)) (b2i_f (by first | rfl | (simp [p_ahead, c_1, c_2, c_9])))) rfl dX13_isAhead_79
      · refine lv_iconst (v := 1) hx hb dX13_isAhead_39 rfl ?_
        refine lv_goto (tgt := 79) hx hb dX13_isAhead_40 (by decide) ?_
        exact fr_z hx hb hr rfl hlocks hX hC () (congrArg (fun z => some (Value.int z)) (b2i_t (by first | rfl | (simp [p_ahead, c_1, c_2, c_9])))) rfl dX13_isAhead_79
  · refine lv_aload_n hx hb dX13_isAhead_12 rfl (lv_at hl 1 rfl) ?_
    refine fc_V (As := []) (rest := []) hx hb hml hown hts hX hC (m_X13_high) (lw_V q1543 q1545 qs74 q124 q1546) hdV_X13_high ⟨rfl, rfl⟩ ⟨Nat.le_of_ble_eq_true rfl, Nat.le_of_ble_eq_true rfl⟩ (fx_recv (g := 0) (i := 0) (ci := 0) (q := (RX13, TX13, 24)) hX hC (min_ (by decide)) rfl rfl) hl.1 rfl (Nat.le_of_ble_eq_true rfl) ⟨Nat.zero_le _, Nat.zero_le _⟩ dX13_isAhead_13 (fun _ H locs hC => ?_)
    refine W.eq (g2 := F0 m 16 ls [.int (p_high d)]) rfl ?_
    refine fi_ge (tgt := 23) hx hb dX13_isAhead_16 (by decide) (fun c_11 => ?_) (fun c_11 => ?_)
    · refine lv_iconst (v := 0) hx hb dX13_isAhead_23 rfl ?_
      refine lv_goto (tgt := 79) hx hb dX13_isAhead_24 (by decide) ?_
      exact fr_z hx hb hr rfl hlocks hX hC () (congrArg (fun z => some (Value.int z)) (b2i_f (by first | rfl | (simp [p_ahead, c_1, c_11])))) rfl dX13_isAhead_79
    · refine lv_iconst (v := 1) hx hb dX13_isAhead_19 rfl ?_
      refine lv_goto (tgt := 79) hx hb dX13_isAhead_20 (by decide) ?_
      exact fr_z hx hb hr rfl hlocks hX hC () (congrArg (fun z => some (Value.int z)) (b2i_t (by first | rfl | (simp [p_ahead, c_1, c_11])))) rfl dX13_isAhead_79
set_option maxRecDepth 100000 in
theorem m_X13_hears {l : Launch} {G : Gm} {d kp as bf sc fd tp it ws sz nu mv : Row} (hw : WF d)  : Cm l yX13_hears (ws_ yX13_hears cX13_hears 1 (some .boolean)) ({ frames := 3, cells := 0, slots := 0, locals := 61 }) (mF G) [.ref (G.ad 0 0)] (mct G (mpg d kp as bf sc fd tp it ws sz nu mv)) (fun _ : Unit => some (.int (b2i (p_hears d)))) (fun _ => mct G (mpg d kp as bf sc fd tp it ws sz nu mv)) := by
  refine Cm.start (by decide) (Nat.le_of_ble_eq_true rfl) ?_
  intro p e s m below meth c hf hX hC ls hl
  obtain ⟨hx, hb, hr, hml, hown, hts, hlocks⟩ := hf
  have hl : lv_has ls 1 [(0, .ref (G.ad 0 0))] := hl
  have hown : s.vm.findClass "OwlEarsModel" = some m.cls := hown
  refine lv_aload_n hx hb dX13_hears_0 rfl (lv_at hl 0 rfl) ?_
  refine lv_aload_n hx hb dX13_hears_1 rfl (lv_at hl 0 rfl) ?_
  refine fg_get (C := RX13) (T := TX13) (N := 24) (ci := 0) (g := 0) (i := 0) (v := .ref (G.ad 0 1)) hx hb hown hts hX hC in_X13 rfl (min_ (by decide)) rfl 0 (by decide) q1310 (fun _ h => h) rfl dX13_hears_2 ?_
  refine lv_bipush (v := 8) hx hb dX13_hears_5 rfl ?_
  refine fg_iald (g := 0) (i := 1) (t0 := 0) (v := d 8) hx hb hX hC (min_ (by decide)) rfl rfl (vin_b rfl) rfl dX13_hears_7 ?_
  refine fc_V (As := [.int (d 8)]) (rest := []) hx hb hml hown hts hX hC (m_X13_loudAt hw (d 8)) (lw_V q1412 q1414 qs57 q124 q1415) hdV_X13_loudAt ⟨rfl, rfl⟩ ⟨Nat.le_of_ble_eq_true rfl, Nat.le_of_ble_eq_true rfl⟩ (fx_recv (g := 0) (i := 0) (ci := 0) (q := (RX13, TX13, 24)) hX hC (min_ (by decide)) rfl rfl) hl.1 rfl (Nat.le_of_ble_eq_true rfl) ⟨Nat.zero_le _, Nat.zero_le _⟩ dX13_hears_8 (fun _ H locs hC => ?_)
  refine W.eq (g2 := F0 m 11 ls [.int (p_loudAt d (d 8))]) rfl ?_
  refine lv_aload_n hx hb dX13_hears_11 rfl (lv_at hl 0 rfl) ?_
  refine fc_V (As := []) (rest := [.int (p_loudAt d (d 8))]) hx hb hml hown hts hX hC (m_X13_isAhead) (lw_V q1539 q1541 qs73 q124 q1542) hdV_X13_isAhead ⟨rfl, rfl⟩ ⟨Nat.le_of_ble_eq_true rfl, Nat.le_of_ble_eq_true rfl⟩ (fx_recv (g := 0) (i := 0) (ci := 0) (q := (RX13, TX13, 24)) hX hC (min_ (by decide)) rfl rfl) hl.1 rfl (Nat.le_of_ble_eq_true rfl) ⟨Nat.zero_le _, Nat.zero_le _⟩ dX13_hears_12 (fun _ H locs hC => ?_)
  refine W.eq (g2 := F0 m 15 ls [.int (b2i (p_ahead d)), .int (p_loudAt d (d 8))]) rfl ?_
  refine fw_join (C := p_ahead d) (a := 5) (b := 0) (pcj := 23) (ls := ls) (rest := [.int (p_loudAt d (d 8))]) (fun ja jb => ?_) ?_
  · refine fb_eq (tgt := 22) hx hb dX13_hears_15 (by decide) (fun c_3 => ?_) (fun c_3 => ?_)
    · refine lv_iconst (v := 0) hx hb dX13_hears_22 rfl ?_
      exact jb c_3
    · refine lv_iconst (v := 5) hx hb dX13_hears_18 rfl ?_
      refine lv_goto (tgt := 23) hx hb dX13_hears_19 (by decide) ?_
      exact ja c_3
  refine lv_iadd hx hb dX13_hears_23 ?_
  refine lv_aload_n hx hb dX13_hears_24 rfl (lv_at hl 0 rfl) ?_
  refine fg_get (C := RX13) (T := TX13) (N := 24) (ci := 0) (g := 0) (i := 0) (v := .ref (G.ad 0 1)) hx hb hown hts hX hC in_X13 rfl (min_ (by decide)) rfl 0 (by decide) q1310 (fun _ h => h) rfl dX13_hears_25 ?_
  refine lv_bipush (v := 56) hx hb dX13_hears_28 rfl ?_
  refine lv_aload_n hx hb dX13_hears_30 rfl (lv_at hl 0 rfl) ?_
  refine fg_get (C := RX13) (T := TX13) (N := 24) (ci := 0) (g := 0) (i := 0) (v := .ref (G.ad 0 1)) hx hb hown hts hX hC in_X13 rfl (min_ (by decide)) rfl 0 (by decide) q1310 (fun _ h => h) rfl dX13_hears_31 ?_
  refine lv_bipush (v := 8) hx hb dX13_hears_34 rfl ?_
  refine fg_iald (g := 0) (i := 1) (t0 := 0) (v := d 8) hx hb hX hC (min_ (by decide)) rfl rfl (vin_b rfl) rfl dX13_hears_36 ?_
  refine lv_iadd hx hb dX13_hears_37 ?_
  refine fg_iald (g := 0) (i := 1) (t0 := 0) (v := d (56 + ix (d 8))) hx hb hX hC (min_ (by decide)) rfl rfl (vinp 56 hw.owl (by decide) (by decide)) (congrArg d (ixp 56 hw.owl (by decide))) dX13_hears_38 ?_
  refine fj_le (tgt := 46) hx hb dX13_hears_39 (by decide) (fun c_4 => ?_) (fun c_4 => ?_)
  · refine lv_iconst (v := 0) hx hb dX13_hears_46 rfl ?_
    exact fr_z hx hb hr rfl hlocks hX hC () (congrArg (fun z => some (Value.int z)) (b2i_f (c_4))) rfl dX13_hears_47
  · refine lv_iconst (v := 1) hx hb dX13_hears_42 rfl ?_
    refine lv_goto (tgt := 47) hx hb dX13_hears_43 (by decide) ?_
    exact fr_z hx hb hr rfl hlocks hX hC () (congrArg (fun z => some (Value.int z)) (b2i_t (c_4))) rfl dX13_hears_47
set_option maxRecDepth 100000 in
theorem m_X13_tick {l : Launch} {G : Gm} {d kp as bf sc fd tp it ws sz nu mv : Row} (hw : WF d)  : Cm l yX13_tick (ws_ yX13_tick cX13_tick 2 none) ({ frames := 1, cells := 0, slots := 0, locals := 21 }) (mF G) [.ref (G.ad 0 0)] (mct G (mpg d kp as bf sc fd tp it ws sz nu mv)) (fun _ : Unit => none) (fun _ => mct G (mpg (p_tick d) kp as bf sc fd tp it ws sz nu mv)) := by
  refine Cm.start (by decide) (Nat.le_of_ble_eq_true rfl) ?_
  intro p e s m below meth c hf hX hC ls hl
  obtain ⟨hx, hb, hr, hml, hown, hts, hlocks⟩ := hf
  have hl : lv_has ls 2 [(0, .ref (G.ad 0 0))] := hl
  have hown : s.vm.findClass "OwlEarsModel" = some m.cls := hown
  refine lv_aload_n hx hb dX13_tick_0 rfl (lv_at hl 0 rfl) ?_
  refine fc_V (As := []) (rest := []) hx hb hml hown hts hX hC (m_X13_isRunning) (lw_V q1420 q1422 qs59 q124 q1423) hdV_X13_isRunning ⟨rfl, rfl⟩ ⟨Nat.le_of_ble_eq_true rfl, Nat.le_of_ble_eq_true rfl⟩ (fx_recv (g := 0) (i := 0) (ci := 0) (q := (RX13, TX13, 24)) hX hC (min_ (by decide)) rfl rfl) hl.1 rfl (Nat.le_of_ble_eq_true rfl) ⟨Nat.zero_le _, Nat.zero_le _⟩ dX13_tick_1 (fun _ H locs hC => ?_)
  refine W.eq (g2 := F0 m 4 ls [.int (b2i (p_run d))]) rfl ?_
  refine fb_eq (tgt := 72) hx hb dX13_tick_4 (by decide) (fun c_2 => ?_) (fun c_2 => ?_)
  · refine lv_aload_n hx hb dX13_tick_72 rfl (lv_at hl 0 rfl) ?_
    refine fg_get (C := RX13) (T := TX13) (N := 24) (ci := 0) (g := 0) (i := 0) (v := .ref (G.ad 0 1)) hx hb hown hts hX hC in_X13 rfl (min_ (by decide)) rfl 0 (by decide) q1310 (fun _ h => h) rfl dX13_tick_73 ?_
    refine lv_bipush (v := 7) hx hb dX13_tick_76 rfl ?_
    refine lv_aload_n hx hb dX13_tick_78 rfl (lv_at hl 0 rfl) ?_
    refine fg_get (C := RX13) (T := TX13) (N := 24) (ci := 0) (g := 0) (i := 0) (v := .ref (G.ad 0 1)) hx hb hown hts hX hC in_X13 rfl (min_ (by decide)) rfl 0 (by decide) q1310 (fun _ h => h) rfl dX13_tick_79 ?_
    refine lv_bipush (v := 7) hx hb dX13_tick_82 rfl ?_
    refine fg_iald (g := 0) (i := 1) (t0 := 0) (v := d 7) hx hb hX hC (min_ (by decide)) rfl rfl (vin_b rfl) rfl dX13_tick_84 ?_
    refine lv_iconst (v := 1) hx hb dX13_tick_85 rfl ?_
    refine lv_iadd hx hb dX13_tick_86 ?_
    refine lv_aload_n hx hb dX13_tick_87 rfl (lv_at hl 0 rfl) ?_
    refine fg_get (C := RX13) (T := TX13) (N := 24) (ci := 0) (g := 0) (i := 0) (v := .ref (G.ad 0 1)) hx hb hown hts hX hC in_X13 rfl (min_ (by decide)) rfl 0 (by decide) q1310 (fun _ h => h) rfl dX13_tick_88 ?_
    refine lv_iconst (v := 5) hx hb dX13_tick_91 rfl ?_
    refine fg_iald (g := 0) (i := 1) (t0 := 0) (v := d 5) hx hb hX hC (min_ (by decide)) rfl rfl (vin_b rfl) rfl dX13_tick_92 ?_
    refine lv_aload_n hx hb dX13_tick_93 rfl (lv_at hl 0 rfl) ?_
    refine fg_get (C := RX13) (T := TX13) (N := 24) (ci := 0) (g := 0) (i := 0) (v := .ref (G.ad 0 1)) hx hb hown hts hX hC in_X13 rfl (min_ (by decide)) rfl 0 (by decide) q1310 (fun _ h => h) rfl dX13_tick_94 ?_
    refine lv_bipush (v := 6) hx hb dX13_tick_97 rfl ?_
    refine fg_iald (g := 0) (i := 1) (t0 := 0) (v := d 6) hx hb hX hC (min_ (by decide)) rfl rfl (vin_b rfl) rfl dX13_tick_99 ?_
    refine lv_iadd hx hb dX13_tick_100 ?_
    refine fw_irem hx hb dX13_tick_101 hw.rp ?_
    refine fg_iast (g := 0) (i := 1) (t0 := 0) hx hb hX hC (min_ (by decide)) rfl rfl (vin_b rfl) (mct G (mpg (upd d 7 (rm ((d 7) + 1) ((d 5) + (d 6)))) kp as bf sc fd tp it ws sz nu mv)) (mu mp1 (fun _ _ h => h)) dX13_tick_102 (fun H locs hC => ?_)
    refine lv_aload_n hx hb dX13_tick_103 rfl (lv_at hl 0 rfl) ?_
    refine fg_get (C := RX13) (T := TX13) (N := 24) (ci := 0) (g := 0) (i := 0) (v := .ref (G.ad 0 1)) hx hb hown hts hX hC in_X13 rfl (min_ (by decide)) rfl 0 (by decide) q1310 (fun _ h => h) rfl dX13_tick_104 ?_
    refine lv_iconst (v := 0) hx hb dX13_tick_107 rfl ?_
    refine lv_dup2_11 hx hb dX13_tick_108 rfl rfl ?_
    refine fg_iald (g := 0) (i := 1) (t0 := 0) (v := d 0) hx hb hX hC (min_ (by decide)) rfl rfl (vin_b rfl) rfl dX13_tick_109 ?_
    refine lv_iconst (v := 1) hx hb dX13_tick_110 rfl ?_
    refine lv_iadd hx hb dX13_tick_111 ?_
    refine fg_iast (g := 0) (i := 1) (t0 := 0) hx hb hX hC (min_ (by decide)) rfl rfl (vin_b rfl) (mct G (mpg (upd (upd d 7 (rm ((d 7) + 1) ((d 5) + (d 6)))) 0 ((d 0) + 1)) kp as bf sc fd tp it ws sz nu mv)) (mu mp1 (fun _ _ h => h)) dX13_tick_112 (fun H locs hC => ?_)
    exact fr_v hx hb hr hlocks hX hC () rfl (congrArg (fun z => mct G (mpg z kp as bf sc fd tp it ws sz nu mv)) (by rw [p_tick, if_neg c_2])) dX13_tick_113
  · refine lv_aload_n hx hb dX13_tick_7 rfl (lv_at hl 0 rfl) ?_
    refine fg_get (C := RX13) (T := TX13) (N := 24) (ci := 0) (g := 0) (i := 0) (v := .ref (G.ad 0 1)) hx hb hown hts hX hC in_X13 rfl (min_ (by decide)) rfl 0 (by decide) q1310 (fun _ h => h) rfl dX13_tick_8 ?_
    refine lv_iconst (v := 3) hx hb dX13_tick_11 rfl ?_
    refine fg_iald (g := 0) (i := 1) (t0 := 0) (v := d 3) hx hb hX hC (min_ (by decide)) rfl rfl (vin_b rfl) rfl dX13_tick_12 ?_
    refine lv_aload_n hx hb dX13_tick_13 rfl (lv_at hl 0 rfl) ?_
    refine fg_get (C := RX13) (T := TX13) (N := 24) (ci := 0) (g := 0) (i := 0) (v := .ref (G.ad 0 1)) hx hb hown hts hX hC in_X13 rfl (min_ (by decide)) rfl 0 (by decide) q1310 (fun _ h => h) rfl dX13_tick_14 ?_
    refine lv_iconst (v := 4) hx hb dX13_tick_17 rfl ?_
    refine fg_iald (g := 0) (i := 1) (t0 := 0) (v := d 4) hx hb hX hC (min_ (by decide)) rfl rfl (vin_b rfl) rfl dX13_tick_18 ?_
    refine fc_S (As := [.int (d 3), .int (d 4)]) (rest := []) hx hb hml hown hts hX hC (m_X13_beside (d 3) (d 4) hw.mouse) (lw_S q1502 q1503 q124 q1504) hdS_X13_beside ⟨rfl, rfl⟩ ⟨Nat.le_of_ble_eq_true rfl, Nat.le_of_ble_eq_true rfl⟩ hl.1 rfl (Nat.le_of_ble_eq_true rfl) ⟨Nat.zero_le _, Nat.zero_le _⟩ dX13_tick_19 (fun _ H locs hC => ?_)
    refine W.eq (g2 := F0 m 22 ls [.int (p_nb (d 3) (d 4))]) rfl ?_
    refine lv_istore_n (lv' := [(1, .int (p_nb (d 3) (d 4))), (0, .ref (G.ad 0 0))]) hx hb dX13_tick_22 rfl hl (by decide) rfl (fun ls hl => ?_)
    refine lv_aload_n hx hb dX13_tick_23 rfl (lv_at hl 1 rfl) ?_
    refine fg_get (C := RX13) (T := TX13) (N := 24) (ci := 0) (g := 0) (i := 0) (v := .ref (G.ad 0 1)) hx hb hown hts hX hC in_X13 rfl (min_ (by decide)) rfl 0 (by decide) q1310 (fun _ h => h) rfl dX13_tick_24 ?_
    refine lv_iconst (v := 4) hx hb dX13_tick_27 rfl ?_
    refine lv_iload_n hx hb dX13_tick_28 rfl (lv_at hl 0 rfl) ?_
    refine fw_join (C := (p_nb (d 3) (d 4)) < 0) (a := rm ((d 4) + 1) 4) (b := d 4) (pcj := 51) (ls := ls) (rest := [.int 4, .ref (G.ad 0 1)]) (fun ja jb => ?_) ?_
    · refine fi_ge (tgt := 45) hx hb dX13_tick_29 (by decide) (fun c_4 => ?_) (fun c_4 => ?_)
      · refine lv_aload_n hx hb dX13_tick_45 rfl (lv_at hl 1 rfl) ?_
        refine fg_get (C := RX13) (T := TX13) (N := 24) (ci := 0) (g := 0) (i := 0) (v := .ref (G.ad 0 1)) hx hb hown hts hX hC in_X13 rfl (min_ (by decide)) rfl 0 (by decide) q1310 (fun _ h => h) rfl dX13_tick_46 ?_
        refine lv_iconst (v := 4) hx hb dX13_tick_49 rfl ?_
        refine fg_iald (g := 0) (i := 1) (t0 := 0) (v := d 4) hx hb hX hC (min_ (by decide)) rfl rfl (vin_b rfl) rfl dX13_tick_50 ?_
        exact jb c_4
      · refine lv_aload_n hx hb dX13_tick_32 rfl (lv_at hl 1 rfl) ?_
        refine fg_get (C := RX13) (T := TX13) (N := 24) (ci := 0) (g := 0) (i := 0) (v := .ref (G.ad 0 1)) hx hb hown hts hX hC in_X13 rfl (min_ (by decide)) rfl 0 (by decide) q1310 (fun _ h => h) rfl dX13_tick_33 ?_
        refine lv_iconst (v := 4) hx hb dX13_tick_36 rfl ?_
        refine fg_iald (g := 0) (i := 1) (t0 := 0) (v := d 4) hx hb hX hC (min_ (by decide)) rfl rfl (vin_b rfl) rfl dX13_tick_37 ?_
        refine lv_iconst (v := 1) hx hb dX13_tick_38 rfl ?_
        refine lv_iadd hx hb dX13_tick_39 ?_
        refine lv_iconst (v := 4) hx hb dX13_tick_40 rfl ?_
        refine fw_irem hx hb dX13_tick_41 (by decide) ?_
        refine lv_goto (tgt := 51) hx hb dX13_tick_42 (by decide) ?_
        exact ja c_4
    refine fg_iast (g := 0) (i := 1) (t0 := 0) hx hb hX hC (min_ (by decide)) rfl rfl (vin_b rfl) (mct G (mpg (upd d 4 (if (p_nb (d 3) (d 4)) < 0 then rm ((d 4) + 1) 4 else d 4)) kp as bf sc fd tp it ws sz nu mv)) (mu mp1 (fun _ _ h => h)) dX13_tick_51 (fun H locs hC => ?_)
    refine lv_aload_n hx hb dX13_tick_52 rfl (lv_at hl 1 rfl) ?_
    refine fg_get (C := RX13) (T := TX13) (N := 24) (ci := 0) (g := 0) (i := 0) (v := .ref (G.ad 0 1)) hx hb hown hts hX hC in_X13 rfl (min_ (by decide)) rfl 0 (by decide) q1310 (fun _ h => h) rfl dX13_tick_53 ?_
    refine lv_iconst (v := 3) hx hb dX13_tick_56 rfl ?_
    refine lv_iload_n hx hb dX13_tick_57 rfl (lv_at hl 0 rfl) ?_
    refine fw_join (C := (p_nb (d 3) (d 4)) < 0) (a := d 3) (b := p_nb (d 3) (d 4)) (pcj := 71) (ls := ls) (rest := [.int 3, .ref (G.ad 0 1)]) (fun ja jb => ?_) ?_
    · refine fi_ge (tgt := 70) hx hb dX13_tick_58 (by decide) (fun c_5 => ?_) (fun c_5 => ?_)
      · refine lv_iload_n hx hb dX13_tick_70 rfl (lv_at hl 0 rfl) ?_
        exact jb c_5
      · refine lv_aload_n hx hb dX13_tick_61 rfl (lv_at hl 1 rfl) ?_
        refine fg_get (C := RX13) (T := TX13) (N := 24) (ci := 0) (g := 0) (i := 0) (v := .ref (G.ad 0 1)) hx hb hown hts hX hC in_X13 rfl (min_ (by decide)) rfl 0 (by decide) q1310 (fun _ h => h) rfl dX13_tick_62 ?_
        refine lv_iconst (v := 3) hx hb dX13_tick_65 rfl ?_
        refine fg_iald (g := 0) (i := 1) (t0 := 0) (v := d 3) hx hb hX hC (min_ (by decide)) rfl rfl (vin_b rfl) rfl dX13_tick_66 ?_
        refine lv_goto (tgt := 71) hx hb dX13_tick_67 (by decide) ?_
        exact ja c_5
    refine fg_iast (g := 0) (i := 1) (t0 := 0) hx hb hX hC (min_ (by decide)) rfl rfl (vin_b rfl) (mct G (mpg (upd (upd d 4 (if (p_nb (d 3) (d 4)) < 0 then rm ((d 4) + 1) 4 else d 4)) 3 (if (p_nb (d 3) (d 4)) < 0 then d 3 else p_nb (d 3) (d 4))) kp as bf sc fd tp it ws sz nu mv)) (mu mp1 (fun _ _ h => h)) dX13_tick_71 (fun H locs hC => ?_)
    refine lv_aload_n hx hb dX13_tick_72 rfl (lv_at hl 1 rfl) ?_
    refine fg_get (C := RX13) (T := TX13) (N := 24) (ci := 0) (g := 0) (i := 0) (v := .ref (G.ad 0 1)) hx hb hown hts hX hC in_X13 rfl (min_ (by decide)) rfl 0 (by decide) q1310 (fun _ h => h) rfl dX13_tick_73 ?_
    refine lv_bipush (v := 7) hx hb dX13_tick_76 rfl ?_
    refine lv_aload_n hx hb dX13_tick_78 rfl (lv_at hl 1 rfl) ?_
    refine fg_get (C := RX13) (T := TX13) (N := 24) (ci := 0) (g := 0) (i := 0) (v := .ref (G.ad 0 1)) hx hb hown hts hX hC in_X13 rfl (min_ (by decide)) rfl 0 (by decide) q1310 (fun _ h => h) rfl dX13_tick_79 ?_
    refine lv_bipush (v := 7) hx hb dX13_tick_82 rfl ?_
    refine fg_iald (g := 0) (i := 1) (t0 := 0) (v := d 7) hx hb hX hC (min_ (by decide)) rfl rfl (vin_b rfl) rfl dX13_tick_84 ?_
    refine lv_iconst (v := 1) hx hb dX13_tick_85 rfl ?_
    refine lv_iadd hx hb dX13_tick_86 ?_
    refine lv_aload_n hx hb dX13_tick_87 rfl (lv_at hl 1 rfl) ?_
    refine fg_get (C := RX13) (T := TX13) (N := 24) (ci := 0) (g := 0) (i := 0) (v := .ref (G.ad 0 1)) hx hb hown hts hX hC in_X13 rfl (min_ (by decide)) rfl 0 (by decide) q1310 (fun _ h => h) rfl dX13_tick_88 ?_
    refine lv_iconst (v := 5) hx hb dX13_tick_91 rfl ?_
    refine fg_iald (g := 0) (i := 1) (t0 := 0) (v := d 5) hx hb hX hC (min_ (by decide)) rfl rfl (vin_b rfl) rfl dX13_tick_92 ?_
    refine lv_aload_n hx hb dX13_tick_93 rfl (lv_at hl 1 rfl) ?_
    refine fg_get (C := RX13) (T := TX13) (N := 24) (ci := 0) (g := 0) (i := 0) (v := .ref (G.ad 0 1)) hx hb hown hts hX hC in_X13 rfl (min_ (by decide)) rfl 0 (by decide) q1310 (fun _ h => h) rfl dX13_tick_94 ?_
    refine lv_bipush (v := 6) hx hb dX13_tick_97 rfl ?_
    refine fg_iald (g := 0) (i := 1) (t0 := 0) (v := d 6) hx hb hX hC (min_ (by decide)) rfl rfl (vin_b rfl) rfl dX13_tick_99 ?_
    refine lv_iadd hx hb dX13_tick_100 ?_
    refine fw_irem hx hb dX13_tick_101 hw.rp ?_
    refine fg_iast (g := 0) (i := 1) (t0 := 0) hx hb hX hC (min_ (by decide)) rfl rfl (vin_b rfl) (mct G (mpg (upd (upd (upd d 4 (if (p_nb (d 3) (d 4)) < 0 then rm ((d 4) + 1) 4 else d 4)) 3 (if (p_nb (d 3) (d 4)) < 0 then d 3 else p_nb (d 3) (d 4))) 7 (rm ((d 7) + 1) ((d 5) + (d 6)))) kp as bf sc fd tp it ws sz nu mv)) (mu mp1 (fun _ _ h => h)) dX13_tick_102 (fun H locs hC => ?_)
    refine lv_aload_n hx hb dX13_tick_103 rfl (lv_at hl 1 rfl) ?_
    refine fg_get (C := RX13) (T := TX13) (N := 24) (ci := 0) (g := 0) (i := 0) (v := .ref (G.ad 0 1)) hx hb hown hts hX hC in_X13 rfl (min_ (by decide)) rfl 0 (by decide) q1310 (fun _ h => h) rfl dX13_tick_104 ?_
    refine lv_iconst (v := 0) hx hb dX13_tick_107 rfl ?_
    refine lv_dup2_11 hx hb dX13_tick_108 rfl rfl ?_
    refine fg_iald (g := 0) (i := 1) (t0 := 0) (v := d 0) hx hb hX hC (min_ (by decide)) rfl rfl (vin_b rfl) rfl dX13_tick_109 ?_
    refine lv_iconst (v := 1) hx hb dX13_tick_110 rfl ?_
    refine lv_iadd hx hb dX13_tick_111 ?_
    refine fg_iast (g := 0) (i := 1) (t0 := 0) hx hb hX hC (min_ (by decide)) rfl rfl (vin_b rfl) (mct G (mpg (upd (upd (upd (upd d 4 (if (p_nb (d 3) (d 4)) < 0 then rm ((d 4) + 1) 4 else d 4)) 3 (if (p_nb (d 3) (d 4)) < 0 then d 3 else p_nb (d 3) (d 4))) 7 (rm ((d 7) + 1) ((d 5) + (d 6)))) 0 ((d 0) + 1)) kp as bf sc fd tp it ws sz nu mv)) (mu mp1 (fun _ _ h => h)) dX13_tick_112 (fun H locs hC => ?_)
    exact fr_v hx hb hr hlocks hX hC () rfl (congrArg (fun z => mct G (mpg z kp as bf sc fd tp it ws sz nu mv)) (by rw [p_tick, if_pos c_2]; simp only [nb_neg hw.mouse])) dX13_tick_113
set_option maxRecDepth 100000 in
theorem m_X13_ticks {l : Launch} {G : Gm} {d kp as bf sc fd tp it ws sz nu mv : Row} (hw : WF d) (n : Int32) : Cm l yX13_ticks (ws_ yX13_ticks cX13_ticks 3 none) ({ frames := 2, cells := 0, slots := 0, locals := 42 }) (mF G) [.ref (G.ad 0 0), .int n] (mct G (mpg d kp as bf sc fd tp it ws sz nu mv)) (fun _ : Unit => none) (fun _ => mct G (mpg (p_ticks (ix n) d) kp as bf sc fd tp it ws sz nu mv)) := by
  refine Cm.start (by decide) (Nat.le_of_ble_eq_true rfl) ?_
  intro p e s m below meth c hf hX hC ls hl
  obtain ⟨hx, hb, hr, hml, hown, hts, hlocks⟩ := hf
  have hl : lv_has ls 3 [(0, .ref (G.ad 0 0)), (1, .int n)] := hl
  have hown : s.vm.findClass "OwlEarsModel" = some m.cls := hown
  refine lv_iconst (v := 0) hx hb dX13_ticks_0 rfl ?_
  refine lv_istore_n (lv' := [(2, .int 0), (0, .ref (G.ad 0 0)), (1, .int n)]) hx hb dX13_ticks_1 rfl hl (by decide) rfl (fun ls hl => ?_)
  have L_1 : ∀ (k1 i1 : Nat), i1 + k1 = ix n → ∀ (H : Heap) (locs : List Loc), fC (mF G) (mct G (mpg (p_ticks i1 d) kp as bf sc fd tp it ws sz nu mv)) s.heap H locs → ∀ ls : Array Slot, lv_has ls 3 [(2, .int (nI i1)), (0, .ref (G.ad 0 0)), (1, .int n)] → WG p l e ({ frames := 2, cells := 0, slots := 0, locals := 42 }) s m (([.ref (G.ad 0 0), .int n] : List Value).toArray) below meth c H locs (mF G) (fun _ : Unit => none) (fun _ => mct G (mpg (p_ticks (ix n) d) kp as bf sc fd tp it ws sz nu mv)) (F0 m 2 ls []) := by
    intro k1
    induction k1 with
    | zero =>
      intro i1 hi1 H locs hC ls hl
      obtain rfl : i1 = ix n := by omega
      refine lv_iload_n hx hb dX13_ticks_2 rfl (lv_at hl 0 rfl) ?_
      refine lv_iload_n hx hb dX13_ticks_3 rfl (lv_at hl 2 rfl) ?_
      refine fj_ge (tgt := 17) hx hb dX13_ticks_4 (by decide) (fun _ => ?_) (fun z_2 => absurd z_2 (nlt_ix (n := n)))
      exact fr_v hx hb hr hlocks hX hC () rfl rfl dX13_ticks_17
    | succ k1 ih1 =>
      intro i1 hi1 H locs hC ls hl
      have hz1 : i1 < 2147483648 := by have := ix_lt n; omega
      refine lv_iload_n hx hb dX13_ticks_2 rfl (lv_at hl 0 rfl) ?_
      refine lv_iload_n hx hb dX13_ticks_3 rfl (lv_at hl 2 rfl) ?_
      refine fj_ge (tgt := 17) hx hb dX13_ticks_4 (by decide) (fun z_3 => absurd (lt_ix (n := n) (show i1 < ix n by omega)) z_3) (fun _ => ?_)
      refine lv_aload_n hx hb dX13_ticks_7 rfl (lv_at hl 1 rfl) ?_
      refine fc_V (As := []) (rest := []) hx hb hml hown hts hX hC (m_X13_tick (hw.ticks _)) (lw_V q1498 q1500 qs69 q124 q1501) hdV_X13_tick ⟨rfl, rfl⟩ ⟨Nat.le_of_ble_eq_true rfl, Nat.le_of_ble_eq_true rfl⟩ (fx_recv (g := 0) (i := 0) (ci := 0) (q := (RX13, TX13, 24)) hX hC (min_ (by decide)) rfl rfl) hl.1 rfl (Nat.le_of_ble_eq_true rfl) ⟨Nat.zero_le _, Nat.zero_le _⟩ dX13_ticks_8 (fun _ H locs hC => ?_)
      refine W.eq (g2 := F0 m 11 ls []) rfl ?_
      refine lv_iinc (v := nI (i1 + 1)) (lv' := [(2, .int (nI (i1 + 1))), (0, .ref (G.ad 0 0)), (1, .int n)]) hx hb dX13_ticks_11 hl (k := 0) rfl (nI_1 _) (by decide) rfl (fun ls hl => ?_)
      refine lv_goto (tgt := 2) hx hb dX13_ticks_14 (by decide) ?_
      exact ih1 (i1 + 1) (by omega) _ _ hC ls (lv_sub hl [0, 1, 2] rfl)
  exact L_1 (ix n) 0 (by omega) _ _ hC ls (lv_sub hl [0, 1, 2] rfl)
set_option maxRecDepth 100000 in
theorem m_X13_takes {l : Launch} {G : Gm} {d kp as bf sc fd tp it ws sz nu mv : Row} (k : Int32) (hk : vp_in k 8) : Cm l yX13_takes (ws_ yX13_takes cX13_takes 3 (some .int)) ({ frames := 2, cells := 0, slots := 0, locals := 43 }) (mF G) [.ref (G.ad 0 0), .int k] (mct G (mpg d kp as bf sc fd tp it ws sz nu mv)) (fun _ : Unit => some (.int (p_takes d k))) (fun _ => mct G (mpg d kp as bf sc fd tp it ws sz nu mv)) := by
  refine Cm.start (by decide) (Nat.le_of_ble_eq_true rfl) ?_
  intro p e s m below meth c hf hX hC ls hl
  obtain ⟨hx, hb, hr, hml, hown, hts, hlocks⟩ := hf
  have hl : lv_has ls 3 [(0, .ref (G.ad 0 0)), (1, .int k)] := hl
  have hown : s.vm.findClass "OwlEarsModel" = some m.cls := hown
  refine lv_aload_n hx hb dX13_takes_0 rfl (lv_at hl 0 rfl) ?_
  refine lv_iload_n hx hb dX13_takes_1 rfl (lv_at hl 1 rfl) ?_
  refine lv_iconst (v := 1) hx hb dX13_takes_2 rfl ?_
  refine fc_V (As := [.int k, .int 1]) (rest := []) hx hb hml hown hts hX hC (m_X13_strikeIs_1 k hk) (lw_V q1475 q1477 qs64 q124 q1478) hdV_X13_strikeIs ⟨rfl, rfl⟩ ⟨Nat.le_of_ble_eq_true rfl, Nat.le_of_ble_eq_true rfl⟩ (fx_recv (g := 0) (i := 0) (ci := 0) (q := (RX13, TX13, 24)) hX hC (min_ (by decide)) rfl rfl) hl.1 rfl (Nat.le_of_ble_eq_true rfl) ⟨Nat.zero_le _, Nat.zero_le _⟩ dX13_takes_3 (fun _ H locs hC => ?_)
  refine W.eq (g2 := F0 m 6 ls [.int (d (93 + 4 * ix k))]) rfl ?_
  refine lv_aload_n hx hb dX13_takes_6 rfl (lv_at hl 0 rfl) ?_
  refine fg_get (C := RX13) (T := TX13) (N := 24) (ci := 0) (g := 0) (i := 0) (v := .ref (G.ad 0 1)) hx hb hown hts hX hC in_X13 rfl (min_ (by decide)) rfl 0 (by decide) q1310 (fun _ h => h) rfl dX13_takes_7 ?_
  refine lv_bipush (v := 8) hx hb dX13_takes_10 rfl ?_
  refine fg_iald (g := 0) (i := 1) (t0 := 0) (v := d 8) hx hb hX hC (min_ (by decide)) rfl rfl (vin_b rfl) rfl dX13_takes_12 ?_
  refine fc_S (As := [.int (d (93 + 4 * ix k)), .int (d 8)]) (rest := []) hx hb hml hown hts hX hC (m_X13_apart (d (93 + 4 * ix k)) (d 8)) (lw_S q1425 q1426 q124 q1427) hdS_X13_apart ⟨rfl, rfl⟩ ⟨Nat.le_of_ble_eq_true rfl, Nat.le_of_ble_eq_true rfl⟩ hl.1 rfl (Nat.le_of_ble_eq_true rfl) ⟨Nat.zero_le _, Nat.zero_le _⟩ dX13_takes_13 (fun _ H locs hC => ?_)
  refine W.eq (g2 := F0 m 16 ls [.int (p_apart (d (93 + 4 * ix k)) (d 8))]) rfl ?_
  refine lv_istore_n (lv' := [(2, .int (p_apart (d (93 + 4 * ix k)) (d 8))), (0, .ref (G.ad 0 0)), (1, .int k)]) hx hb dX13_takes_16 rfl hl (by decide) rfl (fun ls hl => ?_)
  refine lv_aload_n hx hb dX13_takes_17 rfl (lv_at hl 1 rfl) ?_
  refine lv_iload_n hx hb dX13_takes_18 rfl (lv_at hl 2 rfl) ?_
  refine lv_iconst (v := 0) hx hb dX13_takes_19 rfl ?_
  refine fc_V (As := [.int k, .int 0]) (rest := []) hx hb hml hown hts hX hC (m_X13_strikeIs_0 k hk) (lw_V q1475 q1477 qs64 q124 q1478) hdV_X13_strikeIs ⟨rfl, rfl⟩ ⟨Nat.le_of_ble_eq_true rfl, Nat.le_of_ble_eq_true rfl⟩ (fx_recv (g := 0) (i := 0) (ci := 0) (q := (RX13, TX13, 24)) hX hC (min_ (by decide)) rfl rfl) hl.1 rfl (Nat.le_of_ble_eq_true rfl) ⟨Nat.zero_le _, Nat.zero_le _⟩ dX13_takes_20 (fun _ H locs hC => ?_)
  refine W.eq (g2 := F0 m 23 ls [.int (d (92 + 4 * ix k))]) rfl ?_
  by_cases c_4 : (d (92 + 4 * ix k)) = 1
  · refine lv_tableIn (off := 37) (tgt := 60) hx hb dX13_takes_23 (by rw [c_4]; decide) (by rw [c_4]; decide) (by rw [c_4]; rfl) (by decide) ?_
    refine lv_iload_n hx hb dX13_takes_60 rfl (lv_at hl 0 rfl) ?_
    refine lv_iconst (v := 2) hx hb dX13_takes_61 rfl ?_
    refine lv_idiv hx hb dX13_takes_62 (by decide) ?_
    refine lv_iconst (v := 1) hx hb dX13_takes_63 rfl ?_
    refine lv_iadd hx hb dX13_takes_64 ?_
    exact fr_i hx hb hr hlocks hX hC () (congrArg (fun z => some (Value.int z)) (by first | rfl | (simp [p_takes, p_far, c_4]))) rfl dX13_takes_65
  by_cases c_5 : (d (92 + 4 * ix k)) = 2
  · refine lv_tableIn (off := 43) (tgt := 66) hx hb dX13_takes_23 (by rw [c_5]; decide) (by rw [c_5]; decide) (by rw [c_5]; rfl) (by decide) ?_
    refine lv_iload_n hx hb dX13_takes_66 rfl (lv_at hl 0 rfl) ?_
    refine lv_iconst (v := 2) hx hb dX13_takes_67 rfl ?_
    refine lv_iadd hx hb dX13_takes_68 ?_
    exact fr_i hx hb hr hlocks hX hC () (congrArg (fun z => some (Value.int z)) (by first | rfl | (simp [p_takes, p_far, c_4, c_5]))) rfl dX13_takes_69
  by_cases c_6 : (d (92 + 4 * ix k)) = 3
  · refine lv_tableIn (off := 47) (tgt := 70) hx hb dX13_takes_23 (by rw [c_6]; decide) (by rw [c_6]; decide) (by rw [c_6]; rfl) (by decide) ?_
    refine lv_iload_n hx hb dX13_takes_70 rfl (lv_at hl 0 rfl) ?_
    refine lv_iconst (v := 4) hx hb dX13_takes_71 rfl ?_
    refine lv_iadd hx hb dX13_takes_72 ?_
    exact fr_i hx hb hr hlocks hX hC () (congrArg (fun z => some (Value.int z)) (by first | rfl | (simp [p_takes, p_far, c_4, c_5, c_6]))) rfl dX13_takes_73
  by_cases c_7 : (d (92 + 4 * ix k)) = 4
  · refine lv_tableIn (off := 51) (tgt := 74) hx hb dX13_takes_23 (by rw [c_7]; decide) (by rw [c_7]; decide) (by rw [c_7]; rfl) (by decide) ?_
    refine lv_iload_n hx hb dX13_takes_74 rfl (lv_at hl 0 rfl) ?_
    refine lv_iconst (v := 4) hx hb dX13_takes_75 rfl ?_
    refine lv_iadd hx hb dX13_takes_76 ?_
    refine lv_aload_n hx hb dX13_takes_77 rfl (lv_at hl 1 rfl) ?_
    refine lv_iload_n hx hb dX13_takes_78 rfl (lv_at hl 2 rfl) ?_
    refine lv_iconst (v := 2) hx hb dX13_takes_79 rfl ?_
    refine fc_V (As := [.int k, .int 2]) (rest := [.int ((p_apart (d (93 + 4 * ix k)) (d 8)) + 4)]) hx hb hml hown hts hX hC (m_X13_strikeIs_2 k hk) (lw_V q1475 q1477 qs64 q124 q1478) hdV_X13_strikeIs ⟨rfl, rfl⟩ ⟨Nat.le_of_ble_eq_true rfl, Nat.le_of_ble_eq_true rfl⟩ (fx_recv (g := 0) (i := 0) (ci := 0) (q := (RX13, TX13, 24)) hX hC (min_ (by decide)) rfl rfl) hl.1 rfl (Nat.le_of_ble_eq_true rfl) ⟨Nat.zero_le _, Nat.zero_le _⟩ dX13_takes_80 (fun _ H locs hC => ?_)
    refine W.eq (g2 := F0 m 83 ls [.int (d (94 + 4 * ix k)), .int ((p_apart (d (93 + 4 * ix k)) (d 8)) + 4)]) rfl ?_
    refine lv_iadd hx hb dX13_takes_83 ?_
    exact fr_i hx hb hr hlocks hX hC () (congrArg (fun z => some (Value.int z)) (by first | rfl | (simp [p_takes, p_far, c_4, c_5, c_6, c_7]))) rfl dX13_takes_84
  by_cases c_9 : (d (92 + 4 * ix k)) = 5
  · refine lv_tableIn (off := 62) (tgt := 85) hx hb dX13_takes_23 (by rw [c_9]; decide) (by rw [c_9]; decide) (by rw [c_9]; rfl) (by decide) ?_
    refine lv_iconst (v := 1) hx hb dX13_takes_85 rfl ?_
    exact fr_i hx hb hr hlocks hX hC () (congrArg (fun z => some (Value.int z)) (by first | rfl | (simp [p_takes, p_far, c_4, c_5, c_6, c_7, c_9]))) rfl dX13_takes_86
  by_cases c_10 : (d (92 + 4 * ix k)) = 6
  · refine lv_tableIn (off := 64) (tgt := 87) hx hb dX13_takes_23 (by rw [c_10]; decide) (by rw [c_10]; decide) (by rw [c_10]; rfl) (by decide) ?_
    refine lv_iload_n hx hb dX13_takes_87 rfl (lv_at hl 0 rfl) ?_
    refine lv_iconst (v := 2) hx hb dX13_takes_88 rfl ?_
    refine lv_idiv hx hb dX13_takes_89 (by decide) ?_
    refine lv_iconst (v := 2) hx hb dX13_takes_90 rfl ?_
    refine lv_iadd hx hb dX13_takes_91 ?_
    exact fr_i hx hb hr hlocks hX hC () (congrArg (fun z => some (Value.int z)) (by first | rfl | (simp [p_takes, p_far, c_4, c_5, c_6, c_7, c_9, c_10]))) rfl dX13_takes_92
  refine lv_tableOut (tgt := 93) hx hb dX13_takes_23 (tabo 1 6 (by decide) (fun k hk => match k, hk with | 0, _ => c_4 | 1, _ => c_5 | 2, _ => c_6 | 3, _ => c_7 | 4, _ => c_9 | 5, _ => c_10) rfl) (by decide) ?_
  refine lv_iload_n hx hb dX13_takes_93 rfl (lv_at hl 0 rfl) ?_
  refine lv_iconst (v := 1) hx hb dX13_takes_94 rfl ?_
  refine lv_iadd hx hb dX13_takes_95 ?_
  exact fr_i hx hb hr hlocks hX hC () (congrArg (fun z => some (Value.int z)) (by first | rfl | (simp [p_takes, p_far, c_4, c_5, c_6, c_7, c_9, c_10]))) rfl dX13_takes_96
set_option maxRecDepth 100000 in
theorem m_X13_deep {l : Launch} {G : Gm} {d kp as bf sc fd tp it ws sz nu mv : Row} (k : Int32) (hk : vp_in k 8) : Cm l yX13_deep (ws_ yX13_deep cX13_deep 2 (some .int)) ({ frames := 2, cells := 0, slots := 0, locals := 43 }) (mF G) [.ref (G.ad 0 0), .int k] (mct G (mpg d kp as bf sc fd tp it ws sz nu mv)) (fun _ : Unit => some (.int (p_deep d k))) (fun _ => mct G (mpg d kp as bf sc fd tp it ws sz nu mv)) := by
  refine Cm.start (by decide) (Nat.le_of_ble_eq_true rfl) ?_
  intro p e s m below meth c hf hX hC ls hl
  obtain ⟨hx, hb, hr, hml, hown, hts, hlocks⟩ := hf
  have hl : lv_has ls 2 [(0, .ref (G.ad 0 0)), (1, .int k)] := hl
  have hown : s.vm.findClass "OwlEarsModel" = some m.cls := hown
  refine lv_aload_n hx hb dX13_deep_0 rfl (lv_at hl 0 rfl) ?_
  refine lv_iload_n hx hb dX13_deep_1 rfl (lv_at hl 1 rfl) ?_
  refine lv_iconst (v := 0) hx hb dX13_deep_2 rfl ?_
  refine fc_V (As := [.int k, .int 0]) (rest := []) hx hb hml hown hts hX hC (m_X13_strikeIs_0 k hk) (lw_V q1475 q1477 qs64 q124 q1478) hdV_X13_strikeIs ⟨rfl, rfl⟩ ⟨Nat.le_of_ble_eq_true rfl, Nat.le_of_ble_eq_true rfl⟩ (fx_recv (g := 0) (i := 0) (ci := 0) (q := (RX13, TX13, 24)) hX hC (min_ (by decide)) rfl rfl) hl.1 rfl (Nat.le_of_ble_eq_true rfl) ⟨Nat.zero_le _, Nat.zero_le _⟩ dX13_deep_3 (fun _ H locs hC => ?_)
  refine W.eq (g2 := F0 m 6 ls [.int (d (92 + 4 * ix k))]) rfl ?_
  by_cases c_2 : (d (92 + 4 * ix k)) = 1
  · refine lv_tableIn (off := 38) (tgt := 44) hx hb dX13_deep_6 (by rw [c_2]; decide) (by rw [c_2]; decide) (by rw [c_2]; rfl) (by decide) ?_
    refine lv_bipush (v := 12) hx hb dX13_deep_44 rfl ?_
    exact fr_i hx hb hr hlocks hX hC () (congrArg (fun z => some (Value.int z)) (by first | rfl | (simp [p_deep, c_2]))) rfl dX13_deep_46
  by_cases c_3 : (d (92 + 4 * ix k)) = 2
  · refine lv_tableIn (off := 41) (tgt := 47) hx hb dX13_deep_6 (by rw [c_3]; decide) (by rw [c_3]; decide) (by rw [c_3]; rfl) (by decide) ?_
    refine lv_bipush (v := 6) hx hb dX13_deep_47 rfl ?_
    exact fr_i hx hb hr hlocks hX hC () (congrArg (fun z => some (Value.int z)) (by first | rfl | (simp [p_deep, c_2, c_3]))) rfl dX13_deep_49
  by_cases c_4 : (d (92 + 4 * ix k)) = 3
  · refine lv_tableIn (off := 41) (tgt := 47) hx hb dX13_deep_6 (by rw [c_4]; decide) (by rw [c_4]; decide) (by rw [c_4]; rfl) (by decide) ?_
    refine lv_bipush (v := 6) hx hb dX13_deep_47 rfl ?_
    exact fr_i hx hb hr hlocks hX hC () (congrArg (fun z => some (Value.int z)) (by first | rfl | (simp [p_deep, c_2, c_3, c_4]))) rfl dX13_deep_49
  by_cases c_5 : (d (92 + 4 * ix k)) = 4
  · refine lv_tableIn (off := 44) (tgt := 50) hx hb dX13_deep_6 (by rw [c_5]; decide) (by rw [c_5]; decide) (by rw [c_5]; rfl) (by decide) ?_
    refine lv_bipush (v := 6) hx hb dX13_deep_50 rfl ?_
    refine lv_aload_n hx hb dX13_deep_52 rfl (lv_at hl 0 rfl) ?_
    refine lv_iload_n hx hb dX13_deep_53 rfl (lv_at hl 1 rfl) ?_
    refine lv_iconst (v := 2) hx hb dX13_deep_54 rfl ?_
    refine fc_V (As := [.int k, .int 2]) (rest := [.int 6]) hx hb hml hown hts hX hC (m_X13_strikeIs_2 k hk) (lw_V q1475 q1477 qs64 q124 q1478) hdV_X13_strikeIs ⟨rfl, rfl⟩ ⟨Nat.le_of_ble_eq_true rfl, Nat.le_of_ble_eq_true rfl⟩ (fx_recv (g := 0) (i := 0) (ci := 0) (q := (RX13, TX13, 24)) hX hC (min_ (by decide)) rfl rfl) hl.1 rfl (Nat.le_of_ble_eq_true rfl) ⟨Nat.zero_le _, Nat.zero_le _⟩ dX13_deep_55 (fun _ H locs hC => ?_)
    refine W.eq (g2 := F0 m 58 ls [.int (d (94 + 4 * ix k)), .int 6]) rfl ?_
    refine lv_iadd hx hb dX13_deep_58 ?_
    exact fr_i hx hb hr hlocks hX hC () (congrArg (fun z => some (Value.int z)) (by first | rfl | (simp [p_deep, c_2, c_3, c_4, c_5]))) rfl dX13_deep_59
  by_cases c_7 : (d (92 + 4 * ix k)) = 5
  · refine lv_tableIn (off := 54) (tgt := 60) hx hb dX13_deep_6 (by rw [c_7]; decide) (by rw [c_7]; decide) (by rw [c_7]; rfl) (by decide) ?_
    refine lv_iconst (v := 0) hx hb dX13_deep_60 rfl ?_
    exact fr_i hx hb hr hlocks hX hC () (congrArg (fun z => some (Value.int z)) (by first | rfl | (simp [p_deep, c_2, c_3, c_4, c_5, c_7]))) rfl dX13_deep_61
  by_cases c_8 : (d (92 + 4 * ix k)) = 6
  · refine lv_tableIn (off := 41) (tgt := 47) hx hb dX13_deep_6 (by rw [c_8]; decide) (by rw [c_8]; decide) (by rw [c_8]; rfl) (by decide) ?_
    refine lv_bipush (v := 6) hx hb dX13_deep_47 rfl ?_
    exact fr_i hx hb hr hlocks hX hC () (congrArg (fun z => some (Value.int z)) (by first | rfl | (simp [p_deep, c_2, c_3, c_4, c_5, c_7, c_8]))) rfl dX13_deep_49
  refine lv_tableOut (tgt := 62) hx hb dX13_deep_6 (tabo 1 6 (by decide) (fun k hk => match k, hk with | 0, _ => c_2 | 1, _ => c_3 | 2, _ => c_4 | 3, _ => c_5 | 4, _ => c_7 | 5, _ => c_8) rfl) (by decide) ?_
  refine lv_bipush (v := 8) hx hb dX13_deep_62 rfl ?_
  exact fr_i hx hb hr hlocks hX hC () (congrArg (fun z => some (Value.int z)) (by first | rfl | (simp [p_deep, c_2, c_3, c_4, c_5, c_7, c_8]))) rfl dX13_deep_64
set_option maxRecDepth 100000 in
theorem m_X13_wide {l : Launch} {G : Gm} {d kp as bf sc fd tp it ws sz nu mv : Row} (k : Int32) (hk : vp_in k 8) : Cm l yX13_wide (ws_ yX13_wide cX13_wide 3 (some .int)) ({ frames := 2, cells := 0, slots := 0, locals := 43 }) (mF G) [.ref (G.ad 0 0), .int k] (mct G (mpg d kp as bf sc fd tp it ws sz nu mv)) (fun _ : Unit => some (.int (p_wide d k))) (fun _ => mct G (mpg d kp as bf sc fd tp it ws sz nu mv)) := by
  refine Cm.start (by decide) (Nat.le_of_ble_eq_true rfl) ?_
  intro p e s m below meth c hf hX hC ls hl
  obtain ⟨hx, hb, hr, hml, hown, hts, hlocks⟩ := hf
  have hl : lv_has ls 3 [(0, .ref (G.ad 0 0)), (1, .int k)] := hl
  have hown : s.vm.findClass "OwlEarsModel" = some m.cls := hown
  refine lv_aload_n hx hb dX13_wide_0 rfl (lv_at hl 0 rfl) ?_
  refine lv_iload_n hx hb dX13_wide_1 rfl (lv_at hl 1 rfl) ?_
  refine lv_iconst (v := 0) hx hb dX13_wide_2 rfl ?_
  refine fc_V (As := [.int k, .int 0]) (rest := []) hx hb hml hown hts hX hC (m_X13_strikeIs_0 k hk) (lw_V q1475 q1477 qs64 q124 q1478) hdV_X13_strikeIs ⟨rfl, rfl⟩ ⟨Nat.le_of_ble_eq_true rfl, Nat.le_of_ble_eq_true rfl⟩ (fx_recv (g := 0) (i := 0) (ci := 0) (q := (RX13, TX13, 24)) hX hC (min_ (by decide)) rfl rfl) hl.1 rfl (Nat.le_of_ble_eq_true rfl) ⟨Nat.zero_le _, Nat.zero_le _⟩ dX13_wide_3 (fun _ H locs hC => ?_)
  refine W.eq (g2 := F0 m 6 ls [.int (d (92 + 4 * ix k))]) rfl ?_
  refine lv_istore_n (lv' := [(2, .int (d (92 + 4 * ix k))), (0, .ref (G.ad 0 0)), (1, .int k)]) hx hb dX13_wide_6 rfl hl (by decide) rfl (fun ls hl => ?_)
  refine lv_iload_n hx hb dX13_wide_7 rfl (lv_at hl 0 rfl) ?_
  refine lv_iconst (v := 5) hx hb dX13_wide_8 rfl ?_
  refine lv_icmp_ne (tgt := 16) hx hb dX13_wide_9 (by decide) (fun c_2 => ?_) (fun c_2 => ?_)
  · refine lv_iload_n hx hb dX13_wide_16 rfl (lv_at hl 0 rfl) ?_
    refine lv_iconst (v := 2) hx hb dX13_wide_17 rfl ?_
    refine lv_icmp_eq (tgt := 31) hx hb dX13_wide_18 (by decide) (fun c_3 => ?_) (fun c_3 => ?_)
    · refine lv_iconst (v := 1) hx hb dX13_wide_31 rfl ?_
      refine lv_goto (tgt := 36) hx hb dX13_wide_32 (by decide) ?_
      exact fr_i hx hb hr hlocks hX hC () (congrArg (fun z => some (Value.int z)) (by first | rfl | (simp [p_wide, c_2, c_3]))) rfl dX13_wide_36
    · refine lv_iload_n hx hb dX13_wide_21 rfl (lv_at hl 0 rfl) ?_
      refine lv_iconst (v := 3) hx hb dX13_wide_22 rfl ?_
      refine lv_icmp_eq (tgt := 31) hx hb dX13_wide_23 (by decide) (fun c_4 => ?_) (fun c_4 => ?_)
      · refine lv_iconst (v := 1) hx hb dX13_wide_31 rfl ?_
        refine lv_goto (tgt := 36) hx hb dX13_wide_32 (by decide) ?_
        exact fr_i hx hb hr hlocks hX hC () (congrArg (fun z => some (Value.int z)) (by first | rfl | (simp [p_wide, c_2, c_3, c_4]))) rfl dX13_wide_36
      · refine lv_iload_n hx hb dX13_wide_26 rfl (lv_at hl 0 rfl) ?_
        refine lv_iconst (v := 4) hx hb dX13_wide_27 rfl ?_
        refine lv_icmp_ne (tgt := 35) hx hb dX13_wide_28 (by decide) (fun c_5 => ?_) (fun c_5 => ?_)
        · refine lv_iconst (v := 0) hx hb dX13_wide_35 rfl ?_
          exact fr_i hx hb hr hlocks hX hC () (congrArg (fun z => some (Value.int z)) (by first | rfl | (simp [p_wide, c_2, c_3, c_4, c_5]))) rfl dX13_wide_36
        · refine lv_iconst (v := 1) hx hb dX13_wide_31 rfl ?_
          refine lv_goto (tgt := 36) hx hb dX13_wide_32 (by decide) ?_
          exact fr_i hx hb hr hlocks hX hC () (congrArg (fun z => some (Value.int z)) (by first | rfl | (simp [p_wide, c_2, c_3, c_4, c_5]))) rfl dX13_wide_36
  · refine lv_iconst (v := 2) hx hb dX13_wide_12 rfl ?_
    refine lv_goto (tgt := 36) hx hb dX13_wide_13 (by decide) ?_
    exact fr_i hx hb hr hlocks hX hC () (congrArg (fun z => some (Value.int z)) (by first | rfl | (simp [p_wide, c_2]))) rfl dX13_wide_36
set_option maxRecDepth 100000 in
theorem m_X13_reaches {l : Launch} {G : Gm} {d kp as bf sc fd tp it ws sz nu mv : Row} (hw : WF d) (k : Int32) (hk : vp_in k 8) : Cm l yX13_reaches (ws_ yX13_reaches cX13_reaches 2 (some .boolean)) ({ frames := 3, cells := 0, slots := 0, locals := 65 }) (mF G) [.ref (G.ad 0 0), .int k] (mct G (mpg d kp as bf sc fd tp it ws sz nu mv)) (fun _ : Unit => some (.int (b2i (p_hits d k)))) (fun _ => mct G (mpg d kp as bf sc fd tp it ws sz nu mv)) := by
  refine Cm.start (by decide) (Nat.le_of_ble_eq_true rfl) ?_
  intro p e s m below meth c hf hX hC ls hl
  obtain ⟨hx, hb, hr, hml, hown, hts, hlocks⟩ := hf
  have hl : lv_has ls 2 [(0, .ref (G.ad 0 0)), (1, .int k)] := hl
  have hown : s.vm.findClass "OwlEarsModel" = some m.cls := hown
  refine lv_aload_n hx hb dX13_reaches_0 rfl (lv_at hl 0 rfl) ?_
  refine fg_get (C := RX13) (T := TX13) (N := 24) (ci := 0) (g := 0) (i := 0) (v := .ref (G.ad 0 1)) hx hb hown hts hX hC in_X13 rfl (min_ (by decide)) rfl 0 (by decide) q1310 (fun _ h => h) rfl dX13_reaches_1 ?_
  refine lv_iconst (v := 3) hx hb dX13_reaches_4 rfl ?_
  refine fg_iald (g := 0) (i := 1) (t0 := 0) (v := d 3) hx hb hX hC (min_ (by decide)) rfl rfl (vin_b rfl) rfl dX13_reaches_5 ?_
  refine lv_aload_n hx hb dX13_reaches_6 rfl (lv_at hl 0 rfl) ?_
  refine lv_iload_n hx hb dX13_reaches_7 rfl (lv_at hl 1 rfl) ?_
  refine lv_iconst (v := 1) hx hb dX13_reaches_8 rfl ?_
  refine fc_V (As := [.int k, .int 1]) (rest := [.int (d 3)]) hx hb hml hown hts hX hC (m_X13_strikeIs_1 k hk) (lw_V q1475 q1477 qs64 q124 q1478) hdV_X13_strikeIs ⟨rfl, rfl⟩ ⟨Nat.le_of_ble_eq_true rfl, Nat.le_of_ble_eq_true rfl⟩ (fx_recv (g := 0) (i := 0) (ci := 0) (q := (RX13, TX13, 24)) hX hC (min_ (by decide)) rfl rfl) hl.1 rfl (Nat.le_of_ble_eq_true rfl) ⟨Nat.zero_le _, Nat.zero_le _⟩ dX13_reaches_9 (fun _ H locs hC => ?_)
  refine W.eq (g2 := F0 m 12 ls [.int (d (93 + 4 * ix k)), .int (d 3)]) rfl ?_
  refine fc_S (As := [.int (d 3), .int (d (93 + 4 * ix k))]) (rest := []) hx hb hml hown hts hX hC (m_X13_apart (d 3) (d (93 + 4 * ix k))) (lw_S q1425 q1426 q124 q1427) hdS_X13_apart ⟨rfl, rfl⟩ ⟨Nat.le_of_ble_eq_true rfl, Nat.le_of_ble_eq_true rfl⟩ hl.1 rfl (Nat.le_of_ble_eq_true rfl) ⟨Nat.zero_le _, Nat.zero_le _⟩ dX13_reaches_12 (fun _ H locs hC => ?_)
  refine W.eq (g2 := F0 m 15 ls [.int (p_apart (d 3) (d (93 + 4 * ix k)))]) rfl ?_
  refine lv_aload_n hx hb dX13_reaches_15 rfl (lv_at hl 0 rfl) ?_
  refine lv_iload_n hx hb dX13_reaches_16 rfl (lv_at hl 1 rfl) ?_
  refine fc_V (As := [.int k]) (rest := [.int (p_apart (d 3) (d (93 + 4 * ix k)))]) hx hb hml hown hts hX hC (m_X13_wide k hk) (lw_V q1483 q1485 qs66 q124 q1486) hdV_X13_wide ⟨rfl, rfl⟩ ⟨Nat.le_of_ble_eq_true rfl, Nat.le_of_ble_eq_true rfl⟩ (fx_recv (g := 0) (i := 0) (ci := 0) (q := (RX13, TX13, 24)) hX hC (min_ (by decide)) rfl rfl) hl.1 rfl (Nat.le_of_ble_eq_true rfl) ⟨Nat.zero_le _, Nat.zero_le _⟩ dX13_reaches_17 (fun _ H locs hC => ?_)
  refine W.eq (g2 := F0 m 20 ls [.int (p_wide d k), .int (p_apart (d 3) (d (93 + 4 * ix k)))]) rfl ?_
  refine lv_icmp_gt (tgt := 49) hx hb dX13_reaches_20 (by decide) (fun c_4 => ?_) (fun c_4 => ?_)
  · refine lv_iconst (v := 0) hx hb dX13_reaches_49 rfl ?_
    exact fr_z hx hb hr rfl hlocks hX hC () (congrArg (fun z => some (Value.int z)) (b2i_f (by grind [p_apart_comm]))) rfl dX13_reaches_50
  · refine lv_aload_n hx hb dX13_reaches_23 rfl (lv_at hl 0 rfl) ?_
    refine fg_get (C := RX13) (T := TX13) (N := 24) (ci := 0) (g := 0) (i := 0) (v := .ref (G.ad 0 1)) hx hb hown hts hX hC in_X13 rfl (min_ (by decide)) rfl 0 (by decide) q1310 (fun _ h => h) rfl dX13_reaches_24 ?_
    refine lv_bipush (v := 20) hx hb dX13_reaches_27 rfl ?_
    refine lv_aload_n hx hb dX13_reaches_29 rfl (lv_at hl 0 rfl) ?_
    refine fg_get (C := RX13) (T := TX13) (N := 24) (ci := 0) (g := 0) (i := 0) (v := .ref (G.ad 0 1)) hx hb hown hts hX hC in_X13 rfl (min_ (by decide)) rfl 0 (by decide) q1310 (fun _ h => h) rfl dX13_reaches_30 ?_
    refine lv_iconst (v := 3) hx hb dX13_reaches_33 rfl ?_
    refine fg_iald (g := 0) (i := 1) (t0 := 0) (v := d 3) hx hb hX hC (min_ (by decide)) rfl rfl (vin_b rfl) rfl dX13_reaches_34 ?_
    refine lv_iadd hx hb dX13_reaches_35 ?_
    refine fg_iald (g := 0) (i := 1) (t0 := 0) (v := d (20 + ix (d 3))) hx hb hX hC (min_ (by decide)) rfl rfl (vinp 20 hw.mouse (by decide) (by decide)) (congrArg d (ixp 20 hw.mouse (by decide))) dX13_reaches_36 ?_
    refine lv_aload_n hx hb dX13_reaches_37 rfl (lv_at hl 0 rfl) ?_
    refine lv_iload_n hx hb dX13_reaches_38 rfl (lv_at hl 1 rfl) ?_
    refine fc_V (As := [.int k]) (rest := [.int (d (20 + ix (d 3)))]) hx hb hml hown hts hX hC (m_X13_deep k hk) (lw_V q1479 q1481 qs65 q124 q1482) hdV_X13_deep ⟨rfl, rfl⟩ ⟨Nat.le_of_ble_eq_true rfl, Nat.le_of_ble_eq_true rfl⟩ (fx_recv (g := 0) (i := 0) (ci := 0) (q := (RX13, TX13, 24)) hX hC (min_ (by decide)) rfl rfl) hl.1 rfl (Nat.le_of_ble_eq_true rfl) ⟨Nat.zero_le _, Nat.zero_le _⟩ dX13_reaches_39 (fun _ H locs hC => ?_)
    refine W.eq (g2 := F0 m 42 ls [.int (p_deep d k), .int (d (20 + ix (d 3)))]) rfl ?_
    refine lv_icmp_gt (tgt := 49) hx hb dX13_reaches_42 (by decide) (fun c_6 => ?_) (fun c_6 => ?_)
    · refine lv_iconst (v := 0) hx hb dX13_reaches_49 rfl ?_
      exact fr_z hx hb hr rfl hlocks hX hC () (congrArg (fun z => some (Value.int z)) (b2i_f (by grind [p_apart_comm]))) rfl dX13_reaches_50
    · refine lv_iconst (v := 1) hx hb dX13_reaches_45 rfl ?_
      refine lv_goto (tgt := 50) hx hb dX13_reaches_46 (by decide) ?_
      exact fr_z hx hb hr rfl hlocks hX hC () (congrArg (fun z => some (Value.int z)) (b2i_t (by grind [p_apart_comm]))) rfl dX13_reaches_50
set_option maxRecDepth 100000 in
theorem m_X13_has {l : Launch} {G : Gm} {d kp as bf sc fd tp it ws sz nu mv : Row} (hw : WF d) (k : Int32) (hk : vp_in k 8) : Cm l yX13_has (ws_ yX13_has cX13_has 3 (some .boolean)) ({ frames := 4, cells := 0, slots := 0, locals := 86 }) (mF G) [.ref (G.ad 0 0), .int k] (mct G (mpg d kp as bf sc fd tp it ws sz nu mv)) (fun _ : Unit => some (.int (b2i (p_has d k)))) (fun _ => mct G (mpg d kp as d sc fd tp it ws sz nu mv)) := by
  refine Cm.start (by decide) (Nat.le_of_ble_eq_true rfl) ?_
  intro p e s m below meth c hf hX hC ls hl
  obtain ⟨hx, hb, hr, hml, hown, hts, hlocks⟩ := hf
  have hl : lv_has ls 3 [(0, .ref (G.ad 0 0)), (1, .int k)] := hl
  have hown : s.vm.findClass "OwlEarsModel" = some m.cls := hown
  refine lv_aload_n hx hb dX13_has_0 rfl (lv_at hl 0 rfl) ?_
  refine fg_get (C := RX13) (T := TX13) (N := 24) (ci := 0) (g := 0) (i := 0) (v := .ref (G.ad 0 1)) hx hb hown hts hX hC in_X13 rfl (min_ (by decide)) rfl 0 (by decide) q1310 (fun _ h => h) rfl dX13_has_1 ?_
  refine lv_aload_n hx hb dX13_has_4 rfl (lv_at hl 0 rfl) ?_
  refine fg_get (C := RX13) (T := TX13) (N := 24) (ci := 0) (g := 0) (i := 0) (v := .ref (G.ad 0 4)) hx hb hown hts hX hC in_X13 rfl (min_ (by decide)) rfl 3 (by decide) q1313 (fun _ h => h) rfl dX13_has_5 ?_
  refine fc_S (As := [.ref (G.ad 0 1), .ref (G.ad 0 4)]) (rest := []) hx hb hml hown hts hX hC (m_X13_copyRow (g1 := 0) (i1 := 1) (g2 := 0) (i2 := 4) (t0 := 0) (ctn := mct G (mpg d kp as d sc fd tp it ws sz nu mv)) (min_ (by decide)) rfl (min_ (by decide)) rfl rfl (by decide) (mu mp4 (fun _ _ h => h))) (lw_S q1491 q1492 q124 q1493) hdS_X13_copyRow ⟨rfl, rfl⟩ ⟨Nat.le_of_ble_eq_true rfl, Nat.le_of_ble_eq_true rfl⟩ hl.1 rfl (Nat.le_of_ble_eq_true rfl) ⟨Nat.zero_le _, Nat.zero_le _⟩ dX13_has_8 (fun _ H locs hC => ?_)
  refine W.eq (g2 := F0 m 11 ls []) rfl ?_
  refine lv_aload_n hx hb dX13_has_11 rfl (lv_at hl 0 rfl) ?_
  refine lv_aload_n hx hb dX13_has_12 rfl (lv_at hl 0 rfl) ?_
  refine lv_iload_n hx hb dX13_has_13 rfl (lv_at hl 1 rfl) ?_
  refine fc_V (As := [.int k]) (rest := [.ref (G.ad 0 0)]) hx hb hml hown hts hX hC (m_X13_takes k hk) (lw_V q1471 q1473 qs63 q124 q1474) hdV_X13_takes ⟨rfl, rfl⟩ ⟨Nat.le_of_ble_eq_true rfl, Nat.le_of_ble_eq_true rfl⟩ (fx_recv (g := 0) (i := 0) (ci := 0) (q := (RX13, TX13, 24)) hX hC (min_ (by decide)) rfl rfl) hl.1 rfl (Nat.le_of_ble_eq_true rfl) ⟨Nat.zero_le _, Nat.zero_le _⟩ dX13_has_14 (fun _ H locs hC => ?_)
  refine W.eq (g2 := F0 m 17 ls [.int (p_takes d k), .ref (G.ad 0 0)]) rfl ?_
  refine fc_V (As := [.int (p_takes d k)]) (rest := []) hx hb hml hown hts hX hC (m_X13_ticks hw (p_takes d k)) (lw_V q1494 q1496 qs68 q124 q1497) hdV_X13_ticks ⟨rfl, rfl⟩ ⟨Nat.le_of_ble_eq_true rfl, Nat.le_of_ble_eq_true rfl⟩ (fx_recv (g := 0) (i := 0) (ci := 0) (q := (RX13, TX13, 24)) hX hC (min_ (by decide)) rfl rfl) hl.1 rfl (Nat.le_of_ble_eq_true rfl) ⟨Nat.zero_le _, Nat.zero_le _⟩ dX13_has_17 (fun _ H locs hC => ?_)
  refine W.eq (g2 := F0 m 20 ls []) rfl ?_
  refine lv_aload_n hx hb dX13_has_20 rfl (lv_at hl 0 rfl) ?_
  refine lv_iload_n hx hb dX13_has_21 rfl (lv_at hl 1 rfl) ?_
  refine fc_V (As := [.int k]) (rest := []) hx hb hml hown hts hX hC (m_X13_reaches (hw.ticks _) k hk) (lw_V q1505 q1507 qs70 q124 q1508) hdV_X13_reaches ⟨rfl, rfl⟩ ⟨Nat.le_of_ble_eq_true rfl, Nat.le_of_ble_eq_true rfl⟩ (fx_recv (g := 0) (i := 0) (ci := 0) (q := (RX13, TX13, 24)) hX hC (min_ (by decide)) rfl rfl) hl.1 rfl (Nat.le_of_ble_eq_true rfl) ⟨Nat.zero_le _, Nat.zero_le _⟩ dX13_has_22 (fun _ H locs hC => ?_)
  refine W.eq (g2 := F0 m 25 ls [.int (b2i (p_hits (p_ticks (ix (p_takes d k)) d) k))]) rfl ?_
  refine lv_istore_n (lv' := [(2, .int (b2i (p_hits (p_ticks (ix (p_takes d k)) d) k))), (0, .ref (G.ad 0 0)), (1, .int k)]) hx hb dX13_has_25 rfl hl (by decide) rfl (fun ls hl => ?_)
  refine lv_aload_n hx hb dX13_has_26 rfl (lv_at hl 1 rfl) ?_
  refine fg_get (C := RX13) (T := TX13) (N := 24) (ci := 0) (g := 0) (i := 0) (v := .ref (G.ad 0 4)) hx hb hown hts hX hC in_X13 rfl (min_ (by decide)) rfl 3 (by decide) q1313 (fun _ h => h) rfl dX13_has_27 ?_
  refine lv_aload_n hx hb dX13_has_30 rfl (lv_at hl 1 rfl) ?_
  refine fg_get (C := RX13) (T := TX13) (N := 24) (ci := 0) (g := 0) (i := 0) (v := .ref (G.ad 0 1)) hx hb hown hts hX hC in_X13 rfl (min_ (by decide)) rfl 0 (by decide) q1310 (fun _ h => h) rfl dX13_has_31 ?_
  refine fc_S (As := [.ref (G.ad 0 4), .ref (G.ad 0 1)]) (rest := []) hx hb hml hown hts hX hC (m_X13_copyRow (g1 := 0) (i1 := 4) (g2 := 0) (i2 := 1) (t0 := 0) (ctn := mct G (mpg d kp as d sc fd tp it ws sz nu mv)) (min_ (by decide)) rfl (min_ (by decide)) rfl rfl (by decide) (mu mp1 (fun _ _ h => h))) (lw_S q1491 q1492 q124 q1493) hdS_X13_copyRow ⟨rfl, rfl⟩ ⟨Nat.le_of_ble_eq_true rfl, Nat.le_of_ble_eq_true rfl⟩ hl.1 rfl (Nat.le_of_ble_eq_true rfl) ⟨Nat.zero_le _, Nat.zero_le _⟩ dX13_has_34 (fun _ H locs hC => ?_)
  refine W.eq (g2 := F0 m 37 ls []) rfl ?_
  refine lv_iload_n hx hb dX13_has_37 rfl (lv_at hl 0 rfl) ?_
  exact fr_z hx hb hr nar_b2i hlocks hX hC () (congrArg (fun z => some (Value.int z)) (b2i_c (Iff.rfl))) rfl dX13_has_38
def p_comes (w : Row) (kind aim wait : Int32) : Row := upd (upd (upd (upd (upd w (92 + 4 * ix (w 1)) kind) (93 + 4 * ix (w 1)) aim) (94 + 4 * ix (w 1)) wait) (95 + 4 * ix (w 1)) 0) 1 (w 1 + 1)
set_option maxRecDepth 100000 in
theorem m_X13_comes {l : Launch} {G : Gm} {d kp as bf sc fd tp it ws sz nu mv : Row} (hw : WF d) (kind aim wait : Int32) (hk : vp_in (d 1) 8) : Cm l yX13_comes (ws_ yX13_comes cX13_comes 5 (some .int)) ({ frames := 1, cells := 0, slots := 0, locals := 21 }) (mF G) [.ref (G.ad 0 0), .int kind, .int aim, .int wait] (mct G (mpg d kp as bf sc fd tp it ws sz nu mv)) (fun _ : Unit => some (.int (d 1))) (fun _ => mct G (mpg (p_comes d kind aim wait) kp as bf sc fd tp it ws sz nu mv)) := by
  refine Cm.start (by decide) (Nat.le_of_ble_eq_true rfl) ?_
  intro p e s m below meth c hf hX hC ls hl
  obtain ⟨hx, hb, hr, hml, hown, hts, hlocks⟩ := hf
  have hl : lv_has ls 5 [(0, .ref (G.ad 0 0)), (1, .int kind), (2, .int aim), (3, .int wait)] := hl
  have hown : s.vm.findClass "OwlEarsModel" = some m.cls := hown
  refine lv_aload_n hx hb dX13_comes_0 rfl (lv_at hl 0 rfl) ?_
  refine fg_get (C := RX13) (T := TX13) (N := 24) (ci := 0) (g := 0) (i := 0) (v := .ref (G.ad 0 1)) hx hb hown hts hX hC in_X13 rfl (min_ (by decide)) rfl 0 (by decide) q1310 (fun _ h => h) rfl dX13_comes_1 ?_
  refine lv_iconst (v := 1) hx hb dX13_comes_4 rfl ?_
  refine fg_iald (g := 0) (i := 1) (t0 := 0) (v := d 1) hx hb hX hC (min_ (by decide)) rfl rfl (vin_b rfl) rfl dX13_comes_5 ?_
  refine lv_istore (lv' := [(4, .int (d 1)), (0, .ref (G.ad 0 0)), (1, .int kind), (2, .int aim), (3, .int wait)]) hx hb dX13_comes_6 hl (by decide) rfl (fun ls hl => ?_)
  refine lv_aload_n hx hb dX13_comes_8 rfl (lv_at hl 1 rfl) ?_
  refine fg_get (C := RX13) (T := TX13) (N := 24) (ci := 0) (g := 0) (i := 0) (v := .ref (G.ad 0 1)) hx hb hown hts hX hC in_X13 rfl (min_ (by decide)) rfl 0 (by decide) q1310 (fun _ h => h) rfl dX13_comes_9 ?_
  refine lv_iload hx hb dX13_comes_12 (lv_at hl 0 rfl) ?_
  refine lv_iconst (v := 0) hx hb dX13_comes_14 rfl ?_
  refine fc_S (As := [.int (d 1), .int 0]) (rest := [.ref (G.ad 0 1)]) hx hb hml hown hts hX hC (m_X13_place (d 1) 0) (lw_S q1460 q1461 q124 q1462) hdS_X13_place ⟨rfl, rfl⟩ ⟨Nat.le_of_ble_eq_true rfl, Nat.le_of_ble_eq_true rfl⟩ hl.1 rfl (Nat.le_of_ble_eq_true rfl) ⟨Nat.zero_le _, Nat.zero_le _⟩ dX13_comes_15 (fun _ H locs hC => ?_)
  refine W.eq (g2 := F0 m 18 ls [.int (92 + 4 * (d 1) + 0), .ref (G.ad 0 1)]) rfl ?_
  refine lv_iload_n hx hb dX13_comes_18 rfl (lv_at hl 2 rfl) ?_
  refine fg_iast (g := 0) (i := 1) (t0 := 0) hx hb hX hC (min_ (by decide)) rfl rfl (vinpl 0 hk (by decide)) (mct G (mpg (upd d (92 + 4 * ix (d 1)) kind) kp as bf sc fd tp it ws sz nu mv)) (mu mp1 (mst (ixpl 0 hk (by decide)))) dX13_comes_19 (fun H locs hC => ?_)
  refine lv_aload_n hx hb dX13_comes_20 rfl (lv_at hl 1 rfl) ?_
  refine fg_get (C := RX13) (T := TX13) (N := 24) (ci := 0) (g := 0) (i := 0) (v := .ref (G.ad 0 1)) hx hb hown hts hX hC in_X13 rfl (min_ (by decide)) rfl 0 (by decide) q1310 (fun _ h => h) rfl dX13_comes_21 ?_
  refine lv_iload hx hb dX13_comes_24 (lv_at hl 0 rfl) ?_
  refine lv_iconst (v := 1) hx hb dX13_comes_26 rfl ?_
  refine fc_S (As := [.int (d 1), .int 1]) (rest := [.ref (G.ad 0 1)]) hx hb hml hown hts hX hC (m_X13_place (d 1) 1) (lw_S q1460 q1461 q124 q1462) hdS_X13_place ⟨rfl, rfl⟩ ⟨Nat.le_of_ble_eq_true rfl, Nat.le_of_ble_eq_true rfl⟩ hl.1 rfl (Nat.le_of_ble_eq_true rfl) ⟨Nat.zero_le _, Nat.zero_le _⟩ dX13_comes_27 (fun _ H locs hC => ?_)
  refine W.eq (g2 := F0 m 30 ls [.int (92 + 4 * (d 1) + 1), .ref (G.ad 0 1)]) rfl ?_
  refine lv_iload_n hx hb dX13_comes_30 rfl (lv_at hl 3 rfl) ?_
  refine fg_iast (g := 0) (i := 1) (t0 := 0) hx hb hX hC (min_ (by decide)) rfl rfl (vinpl 1 hk (by decide)) (mct G (mpg (upd (upd d (92 + 4 * ix (d 1)) kind) (93 + 4 * ix (d 1)) aim) kp as bf sc fd tp it ws sz nu mv)) (mu mp1 (mst (ixpl 1 hk (by decide)))) dX13_comes_31 (fun H locs hC => ?_)
  refine lv_aload_n hx hb dX13_comes_32 rfl (lv_at hl 1 rfl) ?_
  refine fg_get (C := RX13) (T := TX13) (N := 24) (ci := 0) (g := 0) (i := 0) (v := .ref (G.ad 0 1)) hx hb hown hts hX hC in_X13 rfl (min_ (by decide)) rfl 0 (by decide) q1310 (fun _ h => h) rfl dX13_comes_33 ?_
  refine lv_iload hx hb dX13_comes_36 (lv_at hl 0 rfl) ?_
  refine lv_iconst (v := 2) hx hb dX13_comes_38 rfl ?_
  refine fc_S (As := [.int (d 1), .int 2]) (rest := [.ref (G.ad 0 1)]) hx hb hml hown hts hX hC (m_X13_place (d 1) 2) (lw_S q1460 q1461 q124 q1462) hdS_X13_place ⟨rfl, rfl⟩ ⟨Nat.le_of_ble_eq_true rfl, Nat.le_of_ble_eq_true rfl⟩ hl.1 rfl (Nat.le_of_ble_eq_true rfl) ⟨Nat.zero_le _, Nat.zero_le _⟩ dX13_comes_39 (fun _ H locs hC => ?_)
  refine W.eq (g2 := F0 m 42 ls [.int (92 + 4 * (d 1) + 2), .ref (G.ad 0 1)]) rfl ?_
  refine lv_iload_n hx hb dX13_comes_42 rfl (lv_at hl 4 rfl) ?_
  refine fg_iast (g := 0) (i := 1) (t0 := 0) hx hb hX hC (min_ (by decide)) rfl rfl (vinpl 2 hk (by decide)) (mct G (mpg (upd (upd (upd d (92 + 4 * ix (d 1)) kind) (93 + 4 * ix (d 1)) aim) (94 + 4 * ix (d 1)) wait) kp as bf sc fd tp it ws sz nu mv)) (mu mp1 (mst (ixpl 2 hk (by decide)))) dX13_comes_43 (fun H locs hC => ?_)
  refine lv_aload_n hx hb dX13_comes_44 rfl (lv_at hl 1 rfl) ?_
  refine fg_get (C := RX13) (T := TX13) (N := 24) (ci := 0) (g := 0) (i := 0) (v := .ref (G.ad 0 1)) hx hb hown hts hX hC in_X13 rfl (min_ (by decide)) rfl 0 (by decide) q1310 (fun _ h => h) rfl dX13_comes_45 ?_
  refine lv_iload hx hb dX13_comes_48 (lv_at hl 0 rfl) ?_
  refine lv_iconst (v := 3) hx hb dX13_comes_50 rfl ?_
  refine fc_S (As := [.int (d 1), .int 3]) (rest := [.ref (G.ad 0 1)]) hx hb hml hown hts hX hC (m_X13_place (d 1) 3) (lw_S q1460 q1461 q124 q1462) hdS_X13_place ⟨rfl, rfl⟩ ⟨Nat.le_of_ble_eq_true rfl, Nat.le_of_ble_eq_true rfl⟩ hl.1 rfl (Nat.le_of_ble_eq_true rfl) ⟨Nat.zero_le _, Nat.zero_le _⟩ dX13_comes_51 (fun _ H locs hC => ?_)
  refine W.eq (g2 := F0 m 54 ls [.int (92 + 4 * (d 1) + 3), .ref (G.ad 0 1)]) rfl ?_
  refine lv_iconst (v := 0) hx hb dX13_comes_54 rfl ?_
  refine fg_iast (g := 0) (i := 1) (t0 := 0) hx hb hX hC (min_ (by decide)) rfl rfl (vinpl 3 hk (by decide)) (mct G (mpg (upd (upd (upd (upd d (92 + 4 * ix (d 1)) kind) (93 + 4 * ix (d 1)) aim) (94 + 4 * ix (d 1)) wait) (95 + 4 * ix (d 1)) 0) kp as bf sc fd tp it ws sz nu mv)) (mu mp1 (mst (ixpl 3 hk (by decide)))) dX13_comes_55 (fun H locs hC => ?_)
  refine lv_aload_n hx hb dX13_comes_56 rfl (lv_at hl 1 rfl) ?_
  refine fg_get (C := RX13) (T := TX13) (N := 24) (ci := 0) (g := 0) (i := 0) (v := .ref (G.ad 0 1)) hx hb hown hts hX hC in_X13 rfl (min_ (by decide)) rfl 0 (by decide) q1310 (fun _ h => h) rfl dX13_comes_57 ?_
  refine lv_iconst (v := 1) hx hb dX13_comes_60 rfl ?_
  refine lv_dup2_11 hx hb dX13_comes_61 rfl rfl ?_
  refine fg_iald (g := 0) (i := 1) (t0 := 0) (v := d 1) hx hb hX hC (min_ (by decide)) rfl rfl (vin_b rfl) ((upd_n (j := 1) (by omega)).trans ((upd_n (j := 1) (by omega)).trans ((upd_n (j := 1) (by omega)).trans (upd_n (j := 1) (by omega))))) dX13_comes_62 ?_
  refine lv_iconst (v := 1) hx hb dX13_comes_63 rfl ?_
  refine lv_iadd hx hb dX13_comes_64 ?_
  refine fg_iast (g := 0) (i := 1) (t0 := 0) hx hb hX hC (min_ (by decide)) rfl rfl (vin_b rfl) (mct G (mpg (upd (upd (upd (upd (upd d (92 + 4 * ix (d 1)) kind) (93 + 4 * ix (d 1)) aim) (94 + 4 * ix (d 1)) wait) (95 + 4 * ix (d 1)) 0) 1 ((d 1) + 1)) kp as bf sc fd tp it ws sz nu mv)) (mu mp1 (fun _ _ h => h)) dX13_comes_65 (fun H locs hC => ?_)
  refine lv_iload hx hb dX13_comes_66 (lv_at hl 0 rfl) ?_
  exact fr_i hx hb hr hlocks hX hC () rfl (congrArg (fun z => mct G (mpg z kp as bf sc fd tp it ws sz nu mv)) (rfl)) dX13_comes_68
