theorem hdV_X4_isRunning : yX4_isRunning.cls = RX4 ∧ yX4_isRunning.cls ≠ "java/lang/invoke/MethodHandle" ∧ yX4_isRunning.cls ≠ "java/lang/invoke/VarHandle" ∧ (parseMethodDescriptor yX4_isRunning.desc).map (fun d => d.parameters.length) = some 0 := by decide +kernel
theorem hdV_X4_loud : yX4_loud.cls = RX4 ∧ yX4_loud.cls ≠ "java/lang/invoke/MethodHandle" ∧ yX4_loud.cls ≠ "java/lang/invoke/VarHandle" ∧ (parseMethodDescriptor yX4_loud.desc).map (fun d => d.parameters.length) = some 0 := by decide +kernel
theorem hdS_X0_apart : yX0_apart.cls ≠ "java/lang/invoke/MethodHandle" ∧ yX0_apart.cls ≠ "java/lang/invoke/VarHandle" ∧ (parseMethodDescriptor yX0_apart.desc).map (fun d => d.parameters.length) = some 2 := by decide +kernel
theorem hdS_J4_signum : yJ4_signum.cls ≠ "java/lang/invoke/MethodHandle" ∧ yJ4_signum.cls ≠ "java/lang/invoke/VarHandle" ∧ (parseMethodDescriptor yJ4_signum.desc).map (fun d => d.parameters.length) = some 1 := by decide +kernel
theorem hdV_X4_high : yX4_high.cls = RX4 ∧ yX4_high.cls ≠ "java/lang/invoke/MethodHandle" ∧ yX4_high.cls ≠ "java/lang/invoke/VarHandle" ∧ (parseMethodDescriptor yX4_high.desc).map (fun d => d.parameters.length) = some 0 := by decide +kernel
theorem hdV_X4_side : yX4_side.cls = RX4 ∧ yX4_side.cls ≠ "java/lang/invoke/MethodHandle" ∧ yX4_side.cls ≠ "java/lang/invoke/VarHandle" ∧ (parseMethodDescriptor yX4_side.desc).map (fun d => d.parameters.length) = some 0 := by decide +kernel
theorem hdV_X4_loudAt : yX4_loudAt.cls = RX4 ∧ yX4_loudAt.cls ≠ "java/lang/invoke/MethodHandle" ∧ yX4_loudAt.cls ≠ "java/lang/invoke/VarHandle" ∧ (parseMethodDescriptor yX4_loudAt.desc).map (fun d => d.parameters.length) = some 1 := by decide +kernel
theorem hdV_X4_isAhead : yX4_isAhead.cls = RX4 ∧ yX4_isAhead.cls ≠ "java/lang/invoke/MethodHandle" ∧ yX4_isAhead.cls ≠ "java/lang/invoke/VarHandle" ∧ (parseMethodDescriptor yX4_isAhead.desc).map (fun d => d.parameters.length) = some 0 := by decide +kernel
theorem hdS_X0_neighbour : yX0_neighbour.cls ≠ "java/lang/invoke/MethodHandle" ∧ yX0_neighbour.cls ≠ "java/lang/invoke/VarHandle" ∧ (parseMethodDescriptor yX0_neighbour.desc).map (fun d => d.parameters.length) = some 2 := by decide +kernel
set_option maxRecDepth 100000 in
theorem m_X0_in {l : Launch} {F : Fam} {ct : Ct} (v lo hi : Int32) : Cm l yX0_in (ws_ yX0_in cX0_in 3 (some .boolean)) ({ frames := 0, cells := 0, slots := 0, locals := 0 }) F [.int v, .int lo, .int hi] (ct) (fun _ : Unit => some (.int (b2i (p_in v lo hi)))) (fun _ => ct) := by
  refine Cm.start (by decide) (Nat.le_of_ble_eq_true rfl) ?_
  intro p e s m below meth c hf hX hC ls hl
  obtain ⟨hx, hb, hr, hml, hown, hts, hlocks⟩ := hf
  have hl : lv_has ls 3 [(0, .int v), (1, .int lo), (2, .int hi)] := hl
  have hown : s.vm.findClass "OwlEars" = some m.cls := hown
  refine lv_iload_n hx hb dX0_in_0 rfl (lv_at hl 0 rfl) ?_
  refine lv_iload_n hx hb dX0_in_1 rfl (lv_at hl 1 rfl) ?_
  refine lv_icmp_lt (tgt := 14) hx hb dX0_in_2 (by decide) (fun c_1 => ?_) (fun c_1 => ?_)
  · refine lv_iconst (v := 0) hx hb dX0_in_14 rfl ?_
    exact fr_z hx hb hr rfl hlocks hX hC () (congrArg (fun z => some (Value.int z)) (b2i_f (by first | rfl | (simp [p_in, c_1])))) rfl dX0_in_15
  · refine lv_iload_n hx hb dX0_in_5 rfl (lv_at hl 0 rfl) ?_
    refine lv_iload_n hx hb dX0_in_6 rfl (lv_at hl 2 rfl) ?_
    refine lv_icmp_gt (tgt := 14) hx hb dX0_in_7 (by decide) (fun c_2 => ?_) (fun c_2 => ?_)
    · refine lv_iconst (v := 0) hx hb dX0_in_14 rfl ?_
      exact fr_z hx hb hr rfl hlocks hX hC () (congrArg (fun z => some (Value.int z)) (b2i_f (by first | rfl | (simp [p_in, c_1, c_2])))) rfl dX0_in_15
    · refine lv_iconst (v := 1) hx hb dX0_in_10 rfl ?_
      refine lv_goto (tgt := 15) hx hb dX0_in_11 (by decide) ?_
      exact fr_z hx hb hr rfl hlocks hX hC () (congrArg (fun z => some (Value.int z)) (b2i_t (by first | rfl | (simp [p_in, c_1, c_2])))) rfl dX0_in_15
set_option maxRecDepth 100000 in
theorem m_X0_apart {l : Launch} {F : Fam} {ct : Ct} (a b : Int32) : Cm l yX0_apart (ws_ yX0_apart cX0_apart 2 (some .int)) ({ frames := 1, cells := 0, slots := 0, locals := 14 }) F [.int a, .int b] (ct) (fun _ : Unit => some (.int (p_apart a b))) (fun _ => ct) := by
  refine Cm.start (by decide) (Nat.le_of_ble_eq_true rfl) ?_
  intro p e s m below meth c hf hX hC ls hl
  obtain ⟨hx, hb, hr, hml, hown, hts, hlocks⟩ := hf
  have hl : lv_has ls 2 [(0, .int a), (1, .int b)] := hl
  have hown : s.vm.findClass "OwlEars" = some m.cls := hown
  refine lv_iload_n hx hb dX0_apart_0 rfl (lv_at hl 0 rfl) ?_
  refine lv_bipush (v := 6) hx hb dX0_apart_1 rfl ?_
  refine lv_idiv hx hb dX0_apart_3 (by decide) ?_
  refine lv_iload_n hx hb dX0_apart_4 rfl (lv_at hl 1 rfl) ?_
  refine lv_bipush (v := 6) hx hb dX0_apart_5 rfl ?_
  refine lv_idiv hx hb dX0_apart_7 (by decide) ?_
  refine lv_isub hx hb dX0_apart_8 ?_
  refine fw_abs hx hb (hml.trans hl.1.symm) hown hts q499 (Nat.le_of_ble_eq_true rfl) (Nat.le_of_ble_eq_true rfl) (Nat.zero_le _) (Nat.zero_le _) q500 q125 q501 dX0_apart_9 ?_
  refine lv_iload_n hx hb dX0_apart_12 rfl (lv_at hl 0 rfl) ?_
  refine lv_bipush (v := 6) hx hb dX0_apart_13 rfl ?_
  refine fw_irem hx hb dX0_apart_15 (by decide) ?_
  refine lv_iload_n hx hb dX0_apart_16 rfl (lv_at hl 1 rfl) ?_
  refine lv_bipush (v := 6) hx hb dX0_apart_17 rfl ?_
  refine fw_irem hx hb dX0_apart_19 (by decide) ?_
  refine lv_isub hx hb dX0_apart_20 ?_
  refine fw_abs hx hb (hml.trans hl.1.symm) hown hts q499 (Nat.le_of_ble_eq_true rfl) (Nat.le_of_ble_eq_true rfl) (Nat.zero_le _) (Nat.zero_le _) q500 q125 q501 dX0_apart_21 ?_
  refine lv_iadd hx hb dX0_apart_24 ?_
  exact fr_i hx hb hr hlocks hX hC () (congrArg (fun z => some (Value.int z)) (rfl)) rfl dX0_apart_25
set_option maxRecDepth 100000 in
theorem m_X0_neighbour {l : Launch} {F : Fam} {ct : Ct} (c0 h : Int32) : Cm l yX0_neighbour (ws_ yX0_neighbour cX0_neighbour 2 (some .int)) ({ frames := 0, cells := 0, slots := 0, locals := 0 }) F [.int c0, .int h] (ct) (fun _ : Unit => some (.int (p_nb c0 h))) (fun _ => ct) := by
  refine Cm.start (by decide) (Nat.le_of_ble_eq_true rfl) ?_
  intro p e s m below meth c hf hX hC ls hl
  obtain ⟨hx, hb, hr, hml, hown, hts, hlocks⟩ := hf
  have hl : lv_has ls 2 [(0, .int c0), (1, .int h)] := hl
  have hown : s.vm.findClass "OwlEars" = some m.cls := hown
  refine lv_iload_n hx hb dX0_neighbour_0 rfl (lv_at hl 1 rfl) ?_
  by_cases c_1 : h = 0
  · refine lv_tableIn (off := 27) (tgt := 28) hx hb dX0_neighbour_1 (by rw [c_1]; decide) (by rw [c_1]; decide) (by rw [c_1]; rfl) (by decide) ?_
    refine lv_iload_n hx hb dX0_neighbour_28 rfl (lv_at hl 0 rfl) ?_
    refine lv_bipush (v := 6) hx hb dX0_neighbour_29 rfl ?_
    refine fj_ge (tgt := 38) hx hb dX0_neighbour_31 (by decide) (fun c_2 => ?_) (fun c_2 => ?_)
    · refine lv_iload_n hx hb dX0_neighbour_38 rfl (lv_at hl 0 rfl) ?_
      refine lv_bipush (v := 6) hx hb dX0_neighbour_39 rfl ?_
      refine lv_isub hx hb dX0_neighbour_41 ?_
      exact fr_i hx hb hr hlocks hX hC () (congrArg (fun z => some (Value.int z)) (by first | rfl | (simp [p_nb, c_1, c_2]))) rfl dX0_neighbour_42
    · refine lv_iconst (v := (-1)) hx hb dX0_neighbour_34 rfl ?_
      refine lv_goto (tgt := 42) hx hb dX0_neighbour_35 (by decide) ?_
      exact fr_i hx hb hr hlocks hX hC () (congrArg (fun z => some (Value.int z)) (by first | rfl | (simp [p_nb, c_1, c_2]))) rfl dX0_neighbour_42
  by_cases c_3 : h = 1
  · refine lv_tableIn (off := 42) (tgt := 43) hx hb dX0_neighbour_1 (by rw [c_3]; decide) (by rw [c_3]; decide) (by rw [c_3]; rfl) (by decide) ?_
    refine lv_iload_n hx hb dX0_neighbour_43 rfl (lv_at hl 0 rfl) ?_
    refine lv_bipush (v := 6) hx hb dX0_neighbour_44 rfl ?_
    refine fw_irem hx hb dX0_neighbour_46 (by decide) ?_
    refine lv_iconst (v := 5) hx hb dX0_neighbour_47 rfl ?_
    refine lv_icmp_ne (tgt := 55) hx hb dX0_neighbour_48 (by decide) (fun c_4 => ?_) (fun c_4 => ?_)
    · refine lv_iload_n hx hb dX0_neighbour_55 rfl (lv_at hl 0 rfl) ?_
      refine lv_iconst (v := 1) hx hb dX0_neighbour_56 rfl ?_
      refine lv_iadd hx hb dX0_neighbour_57 ?_
      exact fr_i hx hb hr hlocks hX hC () (congrArg (fun z => some (Value.int z)) (by first | rfl | (simp [p_nb, c_1, c_3, c_4]))) rfl dX0_neighbour_58
    · refine lv_iconst (v := (-1)) hx hb dX0_neighbour_51 rfl ?_
      refine lv_goto (tgt := 58) hx hb dX0_neighbour_52 (by decide) ?_
      exact fr_i hx hb hr hlocks hX hC () (congrArg (fun z => some (Value.int z)) (by first | rfl | (simp [p_nb, c_1, c_3, c_4]))) rfl dX0_neighbour_58
  by_cases c_5 : h = 2
  · refine lv_tableIn (off := 58) (tgt := 59) hx hb dX0_neighbour_1 (by rw [c_5]; decide) (by rw [c_5]; decide) (by rw [c_5]; rfl) (by decide) ?_
    refine lv_iload_n hx hb dX0_neighbour_59 rfl (lv_at hl 0 rfl) ?_
    refine lv_bipush (v := 30) hx hb dX0_neighbour_60 rfl ?_
    refine lv_icmp_lt (tgt := 69) hx hb dX0_neighbour_62 (by decide) (fun c_6 => ?_) (fun c_6 => ?_)
    · refine lv_iload_n hx hb dX0_neighbour_69 rfl (lv_at hl 0 rfl) ?_
      refine lv_bipush (v := 6) hx hb dX0_neighbour_70 rfl ?_
      refine lv_iadd hx hb dX0_neighbour_72 ?_
      exact fr_i hx hb hr hlocks hX hC () (congrArg (fun z => some (Value.int z)) (by first | rfl | (simp [p_nb, c_1, c_3, c_5, c_6]))) rfl dX0_neighbour_73
    · refine lv_iconst (v := (-1)) hx hb dX0_neighbour_65 rfl ?_
      refine lv_goto (tgt := 73) hx hb dX0_neighbour_66 (by decide) ?_
      exact fr_i hx hb hr hlocks hX hC () (congrArg (fun z => some (Value.int z)) (by first | rfl | (simp [p_nb, c_1, c_3, c_5, c_6]))) rfl dX0_neighbour_73
  refine lv_tableOut (tgt := 74) hx hb dX0_neighbour_1 (tabo 0 3 (by decide) (fun k hk => match k, hk with | 0, _ => c_1 | 1, _ => c_3 | 2, _ => c_5) rfl) (by decide) ?_
  refine lv_iload_n hx hb dX0_neighbour_74 rfl (lv_at hl 0 rfl) ?_
  refine lv_bipush (v := 6) hx hb dX0_neighbour_75 rfl ?_
  refine fw_irem hx hb dX0_neighbour_77 (by decide) ?_
  refine lv_if_ne (tgt := 85) hx hb dX0_neighbour_78 (by decide) (fun c_7 => ?_) (fun c_7 => ?_)
  · refine lv_iload_n hx hb dX0_neighbour_85 rfl (lv_at hl 0 rfl) ?_
    refine lv_iconst (v := 1) hx hb dX0_neighbour_86 rfl ?_
    refine lv_isub hx hb dX0_neighbour_87 ?_
    exact fr_i hx hb hr hlocks hX hC () (congrArg (fun z => some (Value.int z)) (by first | rfl | (simp [p_nb, c_1, c_3, c_5, c_7]))) rfl dX0_neighbour_88
  · refine lv_iconst (v := (-1)) hx hb dX0_neighbour_81 rfl ?_
    refine lv_goto (tgt := 88) hx hb dX0_neighbour_82 (by decide) ?_
    exact fr_i hx hb hr hlocks hX hC () (congrArg (fun z => some (Value.int z)) (by first | rfl | (simp [p_nb, c_1, c_3, c_5, c_7]))) rfl dX0_neighbour_88
set_option maxRecDepth 100000 in
theorem m_J4_signum {l : Launch} {F : Fam} {ct : Ct} (x : Int32) : Cm l yJ4_signum (ws_ yJ4_signum cJ4_signum 1 (some .int)) ({ frames := 0, cells := 0, slots := 0, locals := 0 }) F [.int x] (ct) (fun _ : Unit => some (.int (sgn x))) (fun _ => ct) := by
  refine Cm.start (by decide) (Nat.le_of_ble_eq_true rfl) ?_
  intro p e s m below meth c hf hX hC ls hl
  obtain ⟨hx, hb, hr, hml, hown, hts, hlocks⟩ := hf
  have hl : lv_has ls 1 [(0, .int x)] := hl
  have hown : s.vm.findClass "java/lang/Integer" = some m.cls := hown
  refine lv_iload_n hx hb dJ4_signum_0 rfl (lv_at hl 0 rfl) ?_
  refine lv_bipush (v := 31) hx hb dJ4_signum_1 rfl ?_
  refine lv_ishr hx hb dJ4_signum_3 ?_
  refine lv_iload_n hx hb dJ4_signum_4 rfl (lv_at hl 0 rfl) ?_
  refine lv_ineg hx hb dJ4_signum_5 ?_
  refine lv_bipush (v := 31) hx hb dJ4_signum_6 rfl ?_
  refine fw_iushr hx hb dJ4_signum_8 ?_
  refine lv_ior hx hb dJ4_signum_9 ?_
  exact fr_i hx hb hr hlocks hX hC () (congrArg (fun z => some (Value.int z)) ((sgn_bits _).symm)) rfl dJ4_signum_10
set_option maxRecDepth 100000 in
theorem m_X4_isRunning {l : Launch} {G : Gc} {d kp as un to sc fd tp sh : Row} {sp : Nat → Option Nat}  : Cm l yX4_isRunning (ws_ yX4_isRunning cX4_isRunning 1 (some .boolean)) ({ frames := 0, cells := 0, slots := 0, locals := 0 }) (cF G) [.ref (G.ad 0 0)] (cct G (pg d kp as un to sc fd tp sh) sp) (fun _ : Unit => some (.int (b2i (p_run d)))) (fun _ => cct G (pg d kp as un to sc fd tp sh) sp) := by
  refine Cm.start (by decide) (Nat.le_of_ble_eq_true rfl) ?_
  intro p e s m below meth c hf hX hC ls hl
  obtain ⟨hx, hb, hr, hml, hown, hts, hlocks⟩ := hf
  have hl : lv_has ls 1 [(0, .ref (G.ad 0 0))] := hl
  have hown : s.vm.findClass "OwlEars$World" = some m.cls := hown
  refine lv_aload_n hx hb dX4_isRunning_0 rfl (lv_at hl 0 rfl) ?_
  refine fg_get (C := RX4) (T := TX4) (N := 9) (ci := 0) (g := 0) (i := 0) (v := .ref (G.ad 0 3)) hx hb hown hts hX hC in_X4 rfl (cin rfl) rfl 2 (by decide) q244 (fun _ h => h) rfl dX4_isRunning_1 ?_
  refine lv_iconst (v := 4) hx hb dX4_isRunning_4 rfl ?_
  refine fg_iald (g := 0) (i := 3) (t0 := 0) (v := d 7) hx hb hX hC (cin rfl) rfl rfl (vin_b rfl) rfl dX4_isRunning_5 ?_
  refine lv_aload_n hx hb dX4_isRunning_6 rfl (lv_at hl 0 rfl) ?_
  refine fg_get (C := RX4) (T := TX4) (N := 9) (ci := 0) (g := 0) (i := 0) (v := .ref (G.ad 0 3)) hx hb hown hts hX hC in_X4 rfl (cin rfl) rfl 2 (by decide) q244 (fun _ h => h) rfl dX4_isRunning_7 ?_
  refine lv_iconst (v := 2) hx hb dX4_isRunning_10 rfl ?_
  refine fg_iald (g := 0) (i := 3) (t0 := 0) (v := d 5) hx hb hX hC (cin rfl) rfl rfl (vin_b rfl) rfl dX4_isRunning_11 ?_
  refine fj_ge (tgt := 19) hx hb dX4_isRunning_12 (by decide) (fun c_1 => ?_) (fun c_1 => ?_)
  · refine lv_iconst (v := 0) hx hb dX4_isRunning_19 rfl ?_
    exact fr_z hx hb hr rfl hlocks hX hC () (congrArg (fun z => some (Value.int z)) (b2i_f (by first | rfl | (simp [c_1])))) rfl dX4_isRunning_20
  · refine lv_iconst (v := 1) hx hb dX4_isRunning_15 rfl ?_
    refine lv_goto (tgt := 20) hx hb dX4_isRunning_16 (by decide) ?_
    exact fr_z hx hb hr rfl hlocks hX hC () (congrArg (fun z => some (Value.int z)) (b2i_t (by first | rfl | (simp [c_1])))) rfl dX4_isRunning_20
set_option maxRecDepth 100000 in
theorem m_X4_loud {l : Launch} {G : Gc} {d kp as un to sc fd tp sh : Row} {sp : Nat → Option Nat} (hw : WF d)  : Cm l yX4_loud (ws_ yX4_loud cX4_loud 1 (some .int)) ({ frames := 1, cells := 0, slots := 0, locals := 20 }) (cF G) [.ref (G.ad 0 0)] (cct G (pg d kp as un to sc fd tp sh) sp) (fun _ : Unit => some (.int (p_loud d))) (fun _ => cct G (pg d kp as un to sc fd tp sh) sp) := by
  refine Cm.start (by decide) (Nat.le_of_ble_eq_true rfl) ?_
  intro p e s m below meth c hf hX hC ls hl
  obtain ⟨hx, hb, hr, hml, hown, hts, hlocks⟩ := hf
  have hl : lv_has ls 1 [(0, .ref (G.ad 0 0))] := hl
  have hown : s.vm.findClass "OwlEars$World" = some m.cls := hown
  refine lv_iconst (v := 0) hx hb dX4_loud_0 rfl ?_
  refine lv_aload_n hx hb dX4_loud_1 rfl (lv_at hl 0 rfl) ?_
  refine fc_V (As := []) (rest := [.int 0]) hx hb hml hown hts hX hC (m_X4_isRunning) (lw_V q489 q490 q491 q115 q492) hdV_X4_isRunning ⟨rfl, rfl⟩ ⟨Nat.le_of_ble_eq_true rfl, Nat.le_of_ble_eq_true rfl⟩ (fx_recv (g := 0) (i := 0) (ci := 0) (q := (RX4, TX4, 9)) hX hC (cin rfl) rfl rfl) hl.1 rfl (Nat.le_of_ble_eq_true rfl) ⟨Nat.zero_le _, Nat.zero_le _⟩ dX4_loud_2 (fun _ H locs hC => ?_)
  refine W.eq (g2 := F0 m 5 ls [.int (b2i (p_run d)), .int 0]) rfl ?_
  refine fw_join (C := p_run d) (a := 30) (b := 2) (pcj := 14) (ls := ls) (rest := [.int 0]) (fun ja jb => ?_) ?_
  · refine fb_eq (tgt := 13) hx hb dX4_loud_5 (by decide) (fun c_2 => ?_) (fun c_2 => ?_)
    · refine lv_iconst (v := 2) hx hb dX4_loud_13 rfl ?_
      exact jb c_2
    · refine lv_bipush (v := 30) hx hb dX4_loud_8 rfl ?_
      refine lv_goto (tgt := 14) hx hb dX4_loud_10 (by decide) ?_
      exact ja c_2
  refine lv_aload_n hx hb dX4_loud_14 rfl (lv_at hl 0 rfl) ?_
  refine fg_get (C := RX4) (T := TX4) (N := 9) (ci := 0) (g := 0) (i := 0) (v := .ref (G.ad 0 1)) hx hb hown hts hX hC in_X4 rfl (cin rfl) rfl 0 (by decide) q238 (fun _ h => h) rfl dX4_loud_15 ?_
  refine lv_aload_n hx hb dX4_loud_18 rfl (lv_at hl 0 rfl) ?_
  refine fg_get (C := RX4) (T := TX4) (N := 9) (ci := 0) (g := 0) (i := 0) (v := .ref (G.ad 0 3)) hx hb hown hts hX hC in_X4 rfl (cin rfl) rfl 2 (by decide) q244 (fun _ h => h) rfl dX4_loud_19 ?_
  refine lv_iconst (v := 0) hx hb dX4_loud_22 rfl ?_
  refine fg_iald (g := 0) (i := 3) (t0 := 0) (v := d 3) hx hb hX hC (cin rfl) rfl rfl (vin_b rfl) rfl dX4_loud_23 ?_
  refine fg_iald (g := 0) (i := 1) (t0 := 0) (v := d (20 + ix (d 3))) hx hb hX hC (cin rfl) rfl rfl hw.mouse rfl dX4_loud_24 ?_
  refine lv_isub hx hb dX4_loud_25 ?_
  refine fw_max hx hb (hml.trans hl.1.symm) hown hts q493 (Nat.le_of_ble_eq_true rfl) (Nat.le_of_ble_eq_true rfl) (Nat.zero_le _) (Nat.zero_le _) q494 q125 q495 dX4_loud_26 ?_
  exact fr_i hx hb hr hlocks hX hC () (congrArg (fun z => some (Value.int z)) (by first | rfl | (simp []))) rfl dX4_loud_29
set_option maxRecDepth 100000 in
theorem m_X4_loudAt {l : Launch} {G : Gc} {d kp as un to sc fd tp sh : Row} {sp : Nat → Option Nat} (hw : WF d) (c0 : Int32) : Cm l yX4_loudAt (ws_ yX4_loudAt cX4_loudAt 2 (some .int)) ({ frames := 2, cells := 0, slots := 0, locals := 40 }) (cF G) [.ref (G.ad 0 0), .int c0] (cct G (pg d kp as un to sc fd tp sh) sp) (fun _ : Unit => some (.int (p_loudAt d c0))) (fun _ => cct G (pg d kp as un to sc fd tp sh) sp) := by
  refine Cm.start (by decide) (Nat.le_of_ble_eq_true rfl) ?_
  intro p e s m below meth c hf hX hC ls hl
  obtain ⟨hx, hb, hr, hml, hown, hts, hlocks⟩ := hf
  have hl : lv_has ls 2 [(0, .ref (G.ad 0 0)), (1, .int c0)] := hl
  have hown : s.vm.findClass "OwlEars$World" = some m.cls := hown
  refine lv_aload_n hx hb dX4_loudAt_0 rfl (lv_at hl 0 rfl) ?_
  refine fc_V (As := []) (rest := []) hx hb hml hown hts hX hC (m_X4_loud hw) (lw_V q485 q486 q487 q115 q488) hdV_X4_loud ⟨rfl, rfl⟩ ⟨Nat.le_of_ble_eq_true rfl, Nat.le_of_ble_eq_true rfl⟩ (fx_recv (g := 0) (i := 0) (ci := 0) (q := (RX4, TX4, 9)) hX hC (cin rfl) rfl rfl) hl.1 rfl (Nat.le_of_ble_eq_true rfl) ⟨Nat.zero_le _, Nat.zero_le _⟩ dX4_loudAt_1 (fun _ H locs hC => ?_)
  refine W.eq (g2 := F0 m 4 ls [.int (p_loud d)]) rfl ?_
  refine lv_iconst (v := 3) hx hb dX4_loudAt_4 rfl ?_
  refine lv_iload_n hx hb dX4_loudAt_5 rfl (lv_at hl 1 rfl) ?_
  refine lv_aload_n hx hb dX4_loudAt_6 rfl (lv_at hl 0 rfl) ?_
  refine fg_get (C := RX4) (T := TX4) (N := 9) (ci := 0) (g := 0) (i := 0) (v := .ref (G.ad 0 3)) hx hb hown hts hX hC in_X4 rfl (cin rfl) rfl 2 (by decide) q244 (fun _ h => h) rfl dX4_loudAt_7 ?_
  refine lv_iconst (v := 0) hx hb dX4_loudAt_10 rfl ?_
  refine fg_iald (g := 0) (i := 3) (t0 := 0) (v := d 3) hx hb hX hC (cin rfl) rfl rfl (vin_b rfl) rfl dX4_loudAt_11 ?_
  refine fc_SN (As := [.int c0, .int (d 3)]) (rest := [.int 3, .int (p_loud d)]) hx hb hml hown hts hX hC (m_X0_apart c0 (d 3)) (hX.2.2.1.M q496) q497 q108 q498 hdS_X0_apart ⟨rfl, rfl⟩ ⟨Nat.le_of_ble_eq_true rfl, Nat.le_of_ble_eq_true rfl⟩ hl.1 rfl (Nat.le_of_ble_eq_true rfl) ⟨Nat.zero_le _, Nat.zero_le _⟩ dX4_loudAt_12 (fun _ H locs hC => ?_)
  refine W.eq (g2 := F0 m 15 ls [.int (p_apart c0 (d 3)), .int 3, .int (p_loud d)]) rfl ?_
  refine lv_imul hx hb dX4_loudAt_15 ?_
  refine lv_isub hx hb dX4_loudAt_16 ?_
  exact fr_i hx hb hr hlocks hX hC () (congrArg (fun z => some (Value.int z)) (by first | rfl | (simp []))) rfl dX4_loudAt_17
set_option maxRecDepth 100000 in
theorem m_X4_side {l : Launch} {G : Gc} {d kp as un to sc fd tp sh : Row} {sp : Nat → Option Nat}  : Cm l yX4_side (ws_ yX4_side cX4_side 1 (some .int)) ({ frames := 1, cells := 0, slots := 0, locals := 20 }) (cF G) [.ref (G.ad 0 0)] (cct G (pg d kp as un to sc fd tp sh) sp) (fun _ : Unit => some (.int (p_side d))) (fun _ => cct G (pg d kp as un to sc fd tp sh) sp) := by
  refine Cm.start (by decide) (Nat.le_of_ble_eq_true rfl) ?_
  intro p e s m below meth c hf hX hC ls hl
  obtain ⟨hx, hb, hr, hml, hown, hts, hlocks⟩ := hf
  have hl : lv_has ls 1 [(0, .ref (G.ad 0 0))] := hl
  have hown : s.vm.findClass "OwlEars$World" = some m.cls := hown
  refine lv_aload_n hx hb dX4_side_0 rfl (lv_at hl 0 rfl) ?_
  refine fg_get (C := RX4) (T := TX4) (N := 9) (ci := 0) (g := 0) (i := 0) (v := .ref (G.ad 0 3)) hx hb hown hts hX hC in_X4 rfl (cin rfl) rfl 2 (by decide) q244 (fun _ h => h) rfl dX4_side_1 ?_
  refine lv_iconst (v := 0) hx hb dX4_side_4 rfl ?_
  refine fg_iald (g := 0) (i := 3) (t0 := 0) (v := d 3) hx hb hX hC (cin rfl) rfl rfl (vin_b rfl) rfl dX4_side_5 ?_
  refine lv_bipush (v := 6) hx hb dX4_side_6 rfl ?_
  refine fw_irem hx hb dX4_side_8 (by decide) ?_
  refine lv_aload_n hx hb dX4_side_9 rfl (lv_at hl 0 rfl) ?_
  refine fg_get (C := RX4) (T := TX4) (N := 9) (ci := 0) (g := 0) (i := 0) (v := .ref (G.ad 0 4)) hx hb hown hts hX hC in_X4 rfl (cin rfl) rfl 3 (by decide) q247 (fun _ h => h) rfl dX4_side_10 ?_
  refine lv_iconst (v := 0) hx hb dX4_side_13 rfl ?_
  refine fg_iald (g := 0) (i := 4) (t0 := 0) (v := d 8) hx hb hX hC (cin rfl) rfl rfl (vin_b rfl) rfl dX4_side_14 ?_
  refine lv_bipush (v := 6) hx hb dX4_side_15 rfl ?_
  refine fw_irem hx hb dX4_side_17 (by decide) ?_
  refine lv_isub hx hb dX4_side_18 ?_
  refine fc_S (As := [.int ((rm (d 3) 6) - (rm (d 8) 6))]) (rest := []) hx hb hml hown hts hX hC (m_J4_signum ((rm (d 3) 6) - (rm (d 8) 6))) (lw_S q819 q820 q127 q821) hdS_J4_signum ⟨rfl, rfl⟩ ⟨Nat.le_of_ble_eq_true rfl, Nat.le_of_ble_eq_true rfl⟩ hl.1 rfl (Nat.le_of_ble_eq_true rfl) ⟨Nat.zero_le _, Nat.zero_le _⟩ dX4_side_19 (fun _ H locs hC => ?_)
  refine W.eq (g2 := F0 m 22 ls [.int (sgn ((rm (d 3) 6) - (rm (d 8) 6)))]) rfl ?_
  exact fr_i hx hb hr hlocks hX hC () (congrArg (fun z => some (Value.int z)) (by first | rfl | (simp []))) rfl dX4_side_22
set_option maxRecDepth 100000 in
theorem m_X4_high {l : Launch} {G : Gc} {d kp as un to sc fd tp sh : Row} {sp : Nat → Option Nat}  : Cm l yX4_high (ws_ yX4_high cX4_high 1 (some .int)) ({ frames := 1, cells := 0, slots := 0, locals := 20 }) (cF G) [.ref (G.ad 0 0)] (cct G (pg d kp as un to sc fd tp sh) sp) (fun _ : Unit => some (.int (p_high d))) (fun _ => cct G (pg d kp as un to sc fd tp sh) sp) := by
  refine Cm.start (by decide) (Nat.le_of_ble_eq_true rfl) ?_
  intro p e s m below meth c hf hX hC ls hl
  obtain ⟨hx, hb, hr, hml, hown, hts, hlocks⟩ := hf
  have hl : lv_has ls 1 [(0, .ref (G.ad 0 0))] := hl
  have hown : s.vm.findClass "OwlEars$World" = some m.cls := hown
  refine lv_aload_n hx hb dX4_high_0 rfl (lv_at hl 0 rfl) ?_
  refine fg_get (C := RX4) (T := TX4) (N := 9) (ci := 0) (g := 0) (i := 0) (v := .ref (G.ad 0 3)) hx hb hown hts hX hC in_X4 rfl (cin rfl) rfl 2 (by decide) q244 (fun _ h => h) rfl dX4_high_1 ?_
  refine lv_iconst (v := 0) hx hb dX4_high_4 rfl ?_
  refine fg_iald (g := 0) (i := 3) (t0 := 0) (v := d 3) hx hb hX hC (cin rfl) rfl rfl (vin_b rfl) rfl dX4_high_5 ?_
  refine lv_bipush (v := 6) hx hb dX4_high_6 rfl ?_
  refine lv_idiv hx hb dX4_high_8 (by decide) ?_
  refine lv_aload_n hx hb dX4_high_9 rfl (lv_at hl 0 rfl) ?_
  refine fg_get (C := RX4) (T := TX4) (N := 9) (ci := 0) (g := 0) (i := 0) (v := .ref (G.ad 0 4)) hx hb hown hts hX hC in_X4 rfl (cin rfl) rfl 3 (by decide) q247 (fun _ h => h) rfl dX4_high_10 ?_
  refine lv_iconst (v := 0) hx hb dX4_high_13 rfl ?_
  refine fg_iald (g := 0) (i := 4) (t0 := 0) (v := d 8) hx hb hX hC (cin rfl) rfl rfl (vin_b rfl) rfl dX4_high_14 ?_
  refine lv_bipush (v := 6) hx hb dX4_high_15 rfl ?_
  refine lv_idiv hx hb dX4_high_17 (by decide) ?_
  refine lv_isub hx hb dX4_high_18 ?_
  refine fc_S (As := [.int (((d 3) / 6) - ((d 8) / 6))]) (rest := []) hx hb hml hown hts hX hC (m_J4_signum (((d 3) / 6) - ((d 8) / 6))) (lw_S q819 q820 q127 q821) hdS_J4_signum ⟨rfl, rfl⟩ ⟨Nat.le_of_ble_eq_true rfl, Nat.le_of_ble_eq_true rfl⟩ hl.1 rfl (Nat.le_of_ble_eq_true rfl) ⟨Nat.zero_le _, Nat.zero_le _⟩ dX4_high_19 (fun _ H locs hC => ?_)
  refine W.eq (g2 := F0 m 22 ls [.int (sgn (((d 3) / 6) - ((d 8) / 6)))]) rfl ?_
  exact fr_i hx hb hr hlocks hX hC () (congrArg (fun z => some (Value.int z)) (by first | rfl | (simp []))) rfl dX4_high_22
set_option maxRecDepth 100000 in
theorem m_X4_isAhead {l : Launch} {G : Gc} {d kp as un to sc fd tp sh : Row} {sp : Nat → Option Nat}  : Cm l yX4_isAhead (ws_ yX4_isAhead cX4_isAhead 1 (some .boolean)) ({ frames := 2, cells := 0, slots := 0, locals := 40 }) (cF G) [.ref (G.ad 0 0)] (cct G (pg d kp as un to sc fd tp sh) sp) (fun _ : Unit => some (.int (b2i (p_ahead d)))) (fun _ => cct G (pg d kp as un to sc fd tp sh) sp) := by
  refine Cm.start (by decide) (Nat.le_of_ble_eq_true rfl) ?_
  intro p e s m below meth c hf hX hC ls hl
  obtain ⟨hx, hb, hr, hml, hown, hts, hlocks⟩ := hf
  have hl : lv_has ls 1 [(0, .ref (G.ad 0 0))] := hl
  have hown : s.vm.findClass "OwlEars$World" = some m.cls := hown
  refine lv_aload_n hx hb dX4_isAhead_0 rfl (lv_at hl 0 rfl) ?_
  refine fg_get (C := RX4) (T := TX4) (N := 9) (ci := 0) (g := 0) (i := 0) (v := .ref (G.ad 0 4)) hx hb hown hts hX hC in_X4 rfl (cin rfl) rfl 3 (by decide) q247 (fun _ h => h) rfl dX4_isAhead_1 ?_
  refine lv_iconst (v := 1) hx hb dX4_isAhead_4 rfl ?_
  refine fg_iald (g := 0) (i := 4) (t0 := 0) (v := d 9) hx hb hX hC (cin rfl) rfl rfl (vin_b rfl) rfl dX4_isAhead_5 ?_
  by_cases c_1 : (d 9) = 0
  · refine lv_tableIn (off := 26) (tgt := 32) hx hb dX4_isAhead_6 (by rw [c_1]; decide) (by rw [c_1]; decide) (by rw [c_1]; rfl) (by decide) ?_
    refine lv_aload_n hx hb dX4_isAhead_32 rfl (lv_at hl 0 rfl) ?_
    refine fc_V (As := []) (rest := []) hx hb hml hown hts hX hC (m_X4_high) (lw_V q815 q816 q817 q115 q818) hdV_X4_high ⟨rfl, rfl⟩ ⟨Nat.le_of_ble_eq_true rfl, Nat.le_of_ble_eq_true rfl⟩ (fx_recv (g := 0) (i := 0) (ci := 0) (q := (RX4, TX4, 9)) hX hC (cin rfl) rfl rfl) hl.1 rfl (Nat.le_of_ble_eq_true rfl) ⟨Nat.zero_le _, Nat.zero_le _⟩ dX4_isAhead_33 (fun _ H locs hC => ?_)
    refine W.eq (g2 := F0 m 36 ls [.int (p_high d)]) rfl ?_
    refine fi_ge (tgt := 43) hx hb dX4_isAhead_36 (by decide) (fun c_3 => ?_) (fun c_3 => ?_)
    · refine lv_iconst (v := 0) hx hb dX4_isAhead_43 rfl ?_
      exact fr_z hx hb hr rfl hlocks hX hC () (congrArg (fun z => some (Value.int z)) (b2i_f (by first | rfl | (simp [p_ahead, c_1, c_3])))) rfl dX4_isAhead_44
    · refine lv_iconst (v := 1) hx hb dX4_isAhead_39 rfl ?_
      refine lv_goto (tgt := 44) hx hb dX4_isAhead_40 (by decide) ?_
      exact fr_z hx hb hr rfl hlocks hX hC () (congrArg (fun z => some (Value.int z)) (b2i_t (by first | rfl | (simp [p_ahead, c_1, c_3])))) rfl dX4_isAhead_44
  by_cases c_4 : (d 9) = 1
  · refine lv_tableIn (off := 39) (tgt := 45) hx hb dX4_isAhead_6 (by rw [c_4]; decide) (by rw [c_4]; decide) (by rw [c_4]; rfl) (by decide) ?_
    refine lv_aload_n hx hb dX4_isAhead_45 rfl (lv_at hl 0 rfl) ?_
    refine fc_V (As := []) (rest := []) hx hb hml hown hts hX hC (m_X4_side) (lw_V q822 q823 q824 q115 q825) hdV_X4_side ⟨rfl, rfl⟩ ⟨Nat.le_of_ble_eq_true rfl, Nat.le_of_ble_eq_true rfl⟩ (fx_recv (g := 0) (i := 0) (ci := 0) (q := (RX4, TX4, 9)) hX hC (cin rfl) rfl rfl) hl.1 rfl (Nat.le_of_ble_eq_true rfl) ⟨Nat.zero_le _, Nat.zero_le _⟩ dX4_isAhead_46 (fun _ H locs hC => ?_)
    refine W.eq (g2 := F0 m 49 ls [.int (p_side d)]) rfl ?_
    refine fi_le (tgt := 56) hx hb dX4_isAhead_49 (by decide) (fun c_6 => ?_) (fun c_6 => ?_)
    · refine lv_iconst (v := 0) hx hb dX4_isAhead_56 rfl ?_
      exact fr_z hx hb hr rfl hlocks hX hC () (congrArg (fun z => some (Value.int z)) (b2i_f (by first | rfl | (simp [p_ahead, c_1, c_4, c_6])))) rfl dX4_isAhead_57
    · refine lv_iconst (v := 1) hx hb dX4_isAhead_52 rfl ?_
      refine lv_goto (tgt := 57) hx hb dX4_isAhead_53 (by decide) ?_
      exact fr_z hx hb hr rfl hlocks hX hC () (congrArg (fun z => some (Value.int z)) (b2i_t (by first | rfl | (simp [p_ahead, c_1, c_4, c_6])))) rfl dX4_isAhead_57
  by_cases c_7 : (d 9) = 2
  · refine lv_tableIn (off := 52) (tgt := 58) hx hb dX4_isAhead_6 (by rw [c_7]; decide) (by rw [c_7]; decide) (by rw [c_7]; rfl) (by decide) ?_
    refine lv_aload_n hx hb dX4_isAhead_58 rfl (lv_at hl 0 rfl) ?_
    refine fc_V (As := []) (rest := []) hx hb hml hown hts hX hC (m_X4_high) (lw_V q815 q816 q817 q115 q818) hdV_X4_high ⟨rfl, rfl⟩ ⟨Nat.le_of_ble_eq_true rfl, Nat.le_of_ble_eq_true rfl⟩ (fx_recv (g := 0) (i := 0) (ci := 0) (q := (RX4, TX4, 9)) hX hC (cin rfl) rfl rfl) hl.1 rfl (Nat.le_of_ble_eq_true rfl) ⟨Nat.zero_le _, Nat.zero_le _⟩ dX4_isAhead_59 (fun _ H locs hC => ?_)
    refine W.eq (g2 := F0 m 62 ls [.int (p_high d)]) rfl ?_
    refine fi_le (tgt := 69) hx hb dX4_isAhead_62 (by decide) (fun c_9 => ?_) (fun c_9 => ?_)
    · refine lv_iconst (v := 0) hx hb dX4_isAhead_69 rfl ?_
      exact fr_z hx hb hr rfl hlocks hX hC () (congrArg (fun z => some (Value.int z)) (b2i_f (by first | rfl | (simp [p_ahead, c_1, c_4, c_7, c_9])))) rfl dX4_isAhead_70
    · refine lv_iconst (v := 1) hx hb dX4_isAhead_65 rfl ?_
      refine lv_goto (tgt := 70) hx hb dX4_isAhead_66 (by decide) ?_
      exact fr_z hx hb hr rfl hlocks hX hC () (congrArg (fun z => some (Value.int z)) (b2i_t (by first | rfl | (simp [p_ahead, c_1, c_4, c_7, c_9])))) rfl dX4_isAhead_70
  refine lv_tableOut (tgt := 71) hx hb dX4_isAhead_6 (tabo 0 3 (by decide) (fun k hk => match k, hk with | 0, _ => c_1 | 1, _ => c_4 | 2, _ => c_7) rfl) (by decide) ?_
  refine lv_aload_n hx hb dX4_isAhead_71 rfl (lv_at hl 0 rfl) ?_
  refine fc_V (As := []) (rest := []) hx hb hml hown hts hX hC (m_X4_side) (lw_V q822 q823 q824 q115 q825) hdV_X4_side ⟨rfl, rfl⟩ ⟨Nat.le_of_ble_eq_true rfl, Nat.le_of_ble_eq_true rfl⟩ (fx_recv (g := 0) (i := 0) (ci := 0) (q := (RX4, TX4, 9)) hX hC (cin rfl) rfl rfl) hl.1 rfl (Nat.le_of_ble_eq_true rfl) ⟨Nat.zero_le _, Nat.zero_le _⟩ dX4_isAhead_72 (fun _ H locs hC => ?_)
  refine W.eq (g2 := F0 m 75 ls [.int (p_side d)]) rfl ?_
  refine fi_ge (tgt := 82) hx hb dX4_isAhead_75 (by decide) (fun c_11 => ?_) (fun c_11 => ?_)
  · refine lv_iconst (v := 0) hx hb dX4_isAhead_82 rfl ?_
    exact fr_z hx hb hr rfl hlocks hX hC () (congrArg (fun z => some (Value.int z)) (b2i_f (by first | rfl | (simp [p_ahead, c_1, c_4, c_7, c_11])))) rfl dX4_isAhead_83
  · refine lv_iconst (v := 1) hx hb dX4_isAhead_78 rfl ?_
    refine lv_goto (tgt := 83) hx hb dX4_isAhead_79 (by decide) ?_
    exact fr_z hx hb hr rfl hlocks hX hC () (congrArg (fun z => some (Value.int z)) (b2i_t (by first | rfl | (simp [p_ahead, c_1, c_4, c_7, c_11])))) rfl dX4_isAhead_83
set_option maxRecDepth 100000 in
theorem m_X4_hears {l : Launch} {G : Gc} {d kp as un to sc fd tp sh : Row} {sp : Nat → Option Nat} (hw : WF d)  : Cm l yX4_hears (ws_ yX4_hears cX4_hears 1 (some .boolean)) ({ frames := 3, cells := 0, slots := 0, locals := 61 }) (cF G) [.ref (G.ad 0 0)] (cct G (pg d kp as un to sc fd tp sh) sp) (fun _ : Unit => some (.int (b2i (p_hears d)))) (fun _ => cct G (pg d kp as un to sc fd tp sh) sp) := by
  refine Cm.start (by decide) (Nat.le_of_ble_eq_true rfl) ?_
  intro p e s m below meth c hf hX hC ls hl
  obtain ⟨hx, hb, hr, hml, hown, hts, hlocks⟩ := hf
  have hl : lv_has ls 1 [(0, .ref (G.ad 0 0))] := hl
  have hown : s.vm.findClass "OwlEars$World" = some m.cls := hown
  refine lv_aload_n hx hb dX4_hears_0 rfl (lv_at hl 0 rfl) ?_
  refine lv_aload_n hx hb dX4_hears_1 rfl (lv_at hl 0 rfl) ?_
  refine fg_get (C := RX4) (T := TX4) (N := 9) (ci := 0) (g := 0) (i := 0) (v := .ref (G.ad 0 4)) hx hb hown hts hX hC in_X4 rfl (cin rfl) rfl 3 (by decide) q247 (fun _ h => h) rfl dX4_hears_2 ?_
  refine lv_iconst (v := 0) hx hb dX4_hears_5 rfl ?_
  refine fg_iald (g := 0) (i := 4) (t0 := 0) (v := d 8) hx hb hX hC (cin rfl) rfl rfl (vin_b rfl) rfl dX4_hears_6 ?_
  refine fc_V (As := [.int (d 8)]) (rest := []) hx hb hml hown hts hX hC (m_X4_loudAt hw (d 8)) (lw_V q810 q482 q483 q115 q484) hdV_X4_loudAt ⟨rfl, rfl⟩ ⟨Nat.le_of_ble_eq_true rfl, Nat.le_of_ble_eq_true rfl⟩ (fx_recv (g := 0) (i := 0) (ci := 0) (q := (RX4, TX4, 9)) hX hC (cin rfl) rfl rfl) hl.1 rfl (Nat.le_of_ble_eq_true rfl) ⟨Nat.zero_le _, Nat.zero_le _⟩ dX4_hears_7 (fun _ H locs hC => ?_)
  refine W.eq (g2 := F0 m 10 ls [.int (p_loudAt d (d 8))]) rfl ?_
  refine lv_aload_n hx hb dX4_hears_10 rfl (lv_at hl 0 rfl) ?_
  refine fc_V (As := []) (rest := [.int (p_loudAt d (d 8))]) hx hb hml hown hts hX hC (m_X4_isAhead) (lw_V q811 q813 qs12 q115 q814) hdV_X4_isAhead ⟨rfl, rfl⟩ ⟨Nat.le_of_ble_eq_true rfl, Nat.le_of_ble_eq_true rfl⟩ (fx_recv (g := 0) (i := 0) (ci := 0) (q := (RX4, TX4, 9)) hX hC (cin rfl) rfl rfl) hl.1 rfl (Nat.le_of_ble_eq_true rfl) ⟨Nat.zero_le _, Nat.zero_le _⟩ dX4_hears_11 (fun _ H locs hC => ?_)
  refine W.eq (g2 := F0 m 14 ls [.int (b2i (p_ahead d)), .int (p_loudAt d (d 8))]) rfl ?_
  refine fw_join (C := p_ahead d) (a := 5) (b := 0) (pcj := 22) (ls := ls) (rest := [.int (p_loudAt d (d 8))]) (fun ja jb => ?_) ?_
  · refine fb_eq (tgt := 21) hx hb dX4_hears_14 (by decide) (fun c_3 => ?_) (fun c_3 => ?_)
    · refine lv_iconst (v := 0) hx hb dX4_hears_21 rfl ?_
      exact jb c_3
    · refine lv_iconst (v := 5) hx hb dX4_hears_17 rfl ?_
      refine lv_goto (tgt := 22) hx hb dX4_hears_18 (by decide) ?_
      exact ja c_3
  refine lv_iadd hx hb dX4_hears_22 ?_
  refine lv_aload_n hx hb dX4_hears_23 rfl (lv_at hl 0 rfl) ?_
  refine fg_get (C := RX4) (T := TX4) (N := 9) (ci := 0) (g := 0) (i := 0) (v := .ref (G.ad 0 2)) hx hb hown hts hX hC in_X4 rfl (cin rfl) rfl 1 (by decide) q241 (fun _ h => h) rfl dX4_hears_24 ?_
  refine lv_aload_n hx hb dX4_hears_27 rfl (lv_at hl 0 rfl) ?_
  refine fg_get (C := RX4) (T := TX4) (N := 9) (ci := 0) (g := 0) (i := 0) (v := .ref (G.ad 0 4)) hx hb hown hts hX hC in_X4 rfl (cin rfl) rfl 3 (by decide) q247 (fun _ h => h) rfl dX4_hears_28 ?_
  refine lv_iconst (v := 0) hx hb dX4_hears_31 rfl ?_
  refine fg_iald (g := 0) (i := 4) (t0 := 0) (v := d 8) hx hb hX hC (cin rfl) rfl rfl (vin_b rfl) rfl dX4_hears_32 ?_
  refine fg_iald (g := 0) (i := 2) (t0 := 0) (v := d (56 + ix (d 8))) hx hb hX hC (cin rfl) rfl rfl hw.owl rfl dX4_hears_33 ?_
  refine fj_le (tgt := 41) hx hb dX4_hears_34 (by decide) (fun c_4 => ?_) (fun c_4 => ?_)
  · refine lv_iconst (v := 0) hx hb dX4_hears_41 rfl ?_
    exact fr_z hx hb hr rfl hlocks hX hC () (congrArg (fun z => some (Value.int z)) (b2i_f (by first | rfl | (simp [c_4])))) rfl dX4_hears_42
  · refine lv_iconst (v := 1) hx hb dX4_hears_37 rfl ?_
    refine lv_goto (tgt := 42) hx hb dX4_hears_38 (by decide) ?_
    exact fr_z hx hb hr rfl hlocks hX hC () (congrArg (fun z => some (Value.int z)) (b2i_t (by first | rfl | (simp [c_4])))) rfl dX4_hears_42
set_option maxRecDepth 100000 in
theorem m_X4_passes {l : Launch} {G : Gc} {d kp as un to sc fd tp sh : Row} {sp : Nat → Option Nat} (hw : WF d)  : Cm l yX4_passes (ws_ yX4_passes cX4_passes 2 none) ({ frames := 1, cells := 0, slots := 0, locals := 21 }) (cF G) [.ref (G.ad 0 0)] (cct G (pg d kp as un to sc fd tp sh) sp) (fun _ : Unit => none) (fun _ => cct G (pg (p_tick d) kp as un to sc fd tp sh) sp) := by
  refine Cm.start (by decide) (Nat.le_of_ble_eq_true rfl) ?_
  intro p e s m below meth c hf hX hC ls hl
  obtain ⟨hx, hb, hr, hml, hown, hts, hlocks⟩ := hf
  have hl : lv_has ls 2 [(0, .ref (G.ad 0 0))] := hl
  have hown : s.vm.findClass "OwlEars$World" = some m.cls := hown
  refine lv_aload_n hx hb dX4_passes_0 rfl (lv_at hl 0 rfl) ?_
  refine fg_get (C := RX4) (T := TX4) (N := 9) (ci := 0) (g := 0) (i := 0) (v := .ref (G.ad 0 3)) hx hb hown hts hX hC in_X4 rfl (cin rfl) rfl 2 (by decide) q244 (fun _ h => h) rfl dX4_passes_1 ?_
  refine lv_iconst (v := 0) hx hb dX4_passes_4 rfl ?_
  refine fg_iald (g := 0) (i := 3) (t0 := 0) (v := d 3) hx hb hX hC (cin rfl) rfl rfl (vin_b rfl) rfl dX4_passes_5 ?_
  refine lv_aload_n hx hb dX4_passes_6 rfl (lv_at hl 0 rfl) ?_
  refine fg_get (C := RX4) (T := TX4) (N := 9) (ci := 0) (g := 0) (i := 0) (v := .ref (G.ad 0 3)) hx hb hown hts hX hC in_X4 rfl (cin rfl) rfl 2 (by decide) q244 (fun _ h => h) rfl dX4_passes_7 ?_
  refine lv_iconst (v := 1) hx hb dX4_passes_10 rfl ?_
  refine fg_iald (g := 0) (i := 3) (t0 := 0) (v := d 4) hx hb hX hC (cin rfl) rfl rfl (vin_b rfl) rfl dX4_passes_11 ?_
  refine fc_SN (As := [.int (d 3), .int (d 4)]) (rest := []) hx hb hml hown hts hX hC (m_X0_neighbour (d 3) (d 4)) (hX.2.2.1.M q718) q719 q108 q720 hdS_X0_neighbour ⟨rfl, rfl⟩ ⟨Nat.le_of_ble_eq_true rfl, Nat.le_of_ble_eq_true rfl⟩ hl.1 rfl (Nat.le_of_ble_eq_true rfl) ⟨Nat.zero_le _, Nat.zero_le _⟩ dX4_passes_12 (fun _ H locs hC => ?_)
  refine W.eq (g2 := F0 m 15 ls [.int (p_nb (d 3) (d 4))]) rfl ?_
  refine lv_istore_n (lv' := [(1, .int (p_nb (d 3) (d 4))), (0, .ref (G.ad 0 0))]) hx hb dX4_passes_15 rfl hl (by decide) rfl (fun ls hl => ?_)
  refine lv_aload_n hx hb dX4_passes_16 rfl (lv_at hl 1 rfl) ?_
  refine fc_V (As := []) (rest := []) hx hb hml hown hts hX hC (m_X4_isRunning) (lw_V q489 q490 q491 q115 q492) hdV_X4_isRunning ⟨rfl, rfl⟩ ⟨Nat.le_of_ble_eq_true rfl, Nat.le_of_ble_eq_true rfl⟩ (fx_recv (g := 0) (i := 0) (ci := 0) (q := (RX4, TX4, 9)) hX hC (cin rfl) rfl rfl) hl.1 rfl (Nat.le_of_ble_eq_true rfl) ⟨Nat.zero_le _, Nat.zero_le _⟩ dX4_passes_17 (fun _ H locs hC => ?_)
  refine W.eq (g2 := F0 m 20 ls [.int (b2i (p_run d))]) rfl ?_
  refine fb_eq (tgt := 74) hx hb dX4_passes_20 (by decide) (fun c_3 => ?_) (fun c_3 => ?_)
  · refine lv_aload_n hx hb dX4_passes_74 rfl (lv_at hl 1 rfl) ?_
    refine fg_get (C := RX4) (T := TX4) (N := 9) (ci := 0) (g := 0) (i := 0) (v := .ref (G.ad 0 3)) hx hb hown hts hX hC in_X4 rfl (cin rfl) rfl 2 (by decide) q244 (fun _ h => h) rfl dX4_passes_75 ?_
    refine lv_iconst (v := 4) hx hb dX4_passes_78 rfl ?_
    refine lv_aload_n hx hb dX4_passes_79 rfl (lv_at hl 1 rfl) ?_
    refine fg_get (C := RX4) (T := TX4) (N := 9) (ci := 0) (g := 0) (i := 0) (v := .ref (G.ad 0 3)) hx hb hown hts hX hC in_X4 rfl (cin rfl) rfl 2 (by decide) q244 (fun _ h => h) rfl dX4_passes_80 ?_
    refine lv_iconst (v := 4) hx hb dX4_passes_83 rfl ?_
    refine fg_iald (g := 0) (i := 3) (t0 := 0) (v := d 7) hx hb hX hC (cin rfl) rfl rfl (vin_b rfl) rfl dX4_passes_84 ?_
    refine lv_iconst (v := 1) hx hb dX4_passes_85 rfl ?_
    refine lv_iadd hx hb dX4_passes_86 ?_
    refine lv_aload_n hx hb dX4_passes_87 rfl (lv_at hl 1 rfl) ?_
    refine fg_get (C := RX4) (T := TX4) (N := 9) (ci := 0) (g := 0) (i := 0) (v := .ref (G.ad 0 3)) hx hb hown hts hX hC in_X4 rfl (cin rfl) rfl 2 (by decide) q244 (fun _ h => h) rfl dX4_passes_88 ?_
    refine lv_iconst (v := 2) hx hb dX4_passes_91 rfl ?_
    refine fg_iald (g := 0) (i := 3) (t0 := 0) (v := d 5) hx hb hX hC (cin rfl) rfl rfl (vin_b rfl) rfl dX4_passes_92 ?_
    refine lv_aload_n hx hb dX4_passes_93 rfl (lv_at hl 1 rfl) ?_
    refine fg_get (C := RX4) (T := TX4) (N := 9) (ci := 0) (g := 0) (i := 0) (v := .ref (G.ad 0 3)) hx hb hown hts hX hC in_X4 rfl (cin rfl) rfl 2 (by decide) q244 (fun _ h => h) rfl dX4_passes_94 ?_
    refine lv_iconst (v := 3) hx hb dX4_passes_97 rfl ?_
    refine fg_iald (g := 0) (i := 3) (t0 := 0) (v := d 6) hx hb hX hC (cin rfl) rfl rfl (vin_b rfl) rfl dX4_passes_98 ?_
    refine lv_iadd hx hb dX4_passes_99 ?_
    refine fw_irem hx hb dX4_passes_100 hw.rp ?_
    refine fg_iast (g := 0) (i := 3) (t0 := 0) hx hb hX hC (cin rfl) rfl rfl (vin_b rfl) (cct G (pg (upd d 7 (rm ((d 7) + 1) ((d 5) + (d 6)))) kp as un to sc fd tp sh) sp) (cs_mouse (k := 4) (by decide)) dX4_passes_101 (fun H locs hC => ?_)
    refine lv_aload_n hx hb dX4_passes_102 rfl (lv_at hl 1 rfl) ?_
    refine lv_dup hx hb dX4_passes_103 rfl ?_
    refine fg_get (C := RX4) (T := TX4) (N := 9) (ci := 0) (g := 0) (i := 0) (v := .int (d 0)) hx hb hown hts hX hC in_X4 rfl (cin rfl) rfl 6 (by decide) q258 (fun _ h => h) rfl dX4_passes_104 ?_
    refine lv_iconst (v := 1) hx hb dX4_passes_107 rfl ?_
    refine lv_iadd hx hb dX4_passes_108 ?_
    refine fg_put (C := RX4) (T := TX4) (N := 9) (ci := 0) (g := 0) (i := 0) hx hb hown hts hX hC in_X4 tyX4 tyX4_ok nmX4 rfl (cin rfl) rfl 6 (by decide) q258 (fun _ h => h) rfl rfl rfl (Nat.le_of_ble_eq_true rfl) (cct G (pg (upd (upd d 7 (rm ((d 7) + 1) ((d 5) + (d 6)))) 0 ((d 0) + 1)) kp as un to sc fd tp sh) sp) cs_tick dX4_passes_109 (fun H locs hC => ?_)
    exact fr_v hx hb hr hlocks hX hC () rfl (congrArg (fun z => cct G (pg z kp as un to sc fd tp sh) sp) (by rw [p_tick, if_neg c_3])) dX4_passes_112
  · refine lv_aload_n hx hb dX4_passes_23 rfl (lv_at hl 1 rfl) ?_
    refine fg_get (C := RX4) (T := TX4) (N := 9) (ci := 0) (g := 0) (i := 0) (v := .ref (G.ad 0 3)) hx hb hown hts hX hC in_X4 rfl (cin rfl) rfl 2 (by decide) q244 (fun _ h => h) rfl dX4_passes_24 ?_
    refine lv_iconst (v := 1) hx hb dX4_passes_27 rfl ?_
    refine lv_iload_n hx hb dX4_passes_28 rfl (lv_at hl 0 rfl) ?_
    refine lv_iconst (v := (-1)) hx hb dX4_passes_29 rfl ?_
    refine fw_join (C := (p_nb (d 3) (d 4)) = (-1)) (a := rm ((d 4) + 1) 4) (b := d 4) (pcj := 52) (ls := ls) (rest := [.int 1, .ref (G.ad 0 3)]) (fun ja jb => ?_) ?_
    · refine lv_icmp_ne (tgt := 46) hx hb dX4_passes_30 (by decide) (fun c_4 => ?_) (fun c_4 => ?_)
      · refine lv_aload_n hx hb dX4_passes_46 rfl (lv_at hl 1 rfl) ?_
        refine fg_get (C := RX4) (T := TX4) (N := 9) (ci := 0) (g := 0) (i := 0) (v := .ref (G.ad 0 3)) hx hb hown hts hX hC in_X4 rfl (cin rfl) rfl 2 (by decide) q244 (fun _ h => h) rfl dX4_passes_47 ?_
        refine lv_iconst (v := 1) hx hb dX4_passes_50 rfl ?_
        refine fg_iald (g := 0) (i := 3) (t0 := 0) (v := d 4) hx hb hX hC (cin rfl) rfl rfl (vin_b rfl) rfl dX4_passes_51 ?_
        exact jb c_4
      · refine lv_aload_n hx hb dX4_passes_33 rfl (lv_at hl 1 rfl) ?_
        refine fg_get (C := RX4) (T := TX4) (N := 9) (ci := 0) (g := 0) (i := 0) (v := .ref (G.ad 0 3)) hx hb hown hts hX hC in_X4 rfl (cin rfl) rfl 2 (by decide) q244 (fun _ h => h) rfl dX4_passes_34 ?_
        refine lv_iconst (v := 1) hx hb dX4_passes_37 rfl ?_
        refine fg_iald (g := 0) (i := 3) (t0 := 0) (v := d 4) hx hb hX hC (cin rfl) rfl rfl (vin_b rfl) rfl dX4_passes_38 ?_
        refine lv_iconst (v := 1) hx hb dX4_passes_39 rfl ?_
        refine lv_iadd hx hb dX4_passes_40 ?_
        refine lv_iconst (v := 4) hx hb dX4_passes_41 rfl ?_
        refine fw_irem hx hb dX4_passes_42 (by decide) ?_
        refine lv_goto (tgt := 52) hx hb dX4_passes_43 (by decide) ?_
        exact ja c_4
    refine fg_iast (g := 0) (i := 3) (t0 := 0) hx hb hX hC (cin rfl) rfl rfl (vin_b rfl) (cct G (pg (upd d 4 (if (p_nb (d 3) (d 4)) = (-1) then rm ((d 4) + 1) 4 else d 4)) kp as un to sc fd tp sh) sp) (cs_mouse (k := 1) (by decide)) dX4_passes_52 (fun H locs hC => ?_)
    refine lv_aload_n hx hb dX4_passes_53 rfl (lv_at hl 1 rfl) ?_
    refine fg_get (C := RX4) (T := TX4) (N := 9) (ci := 0) (g := 0) (i := 0) (v := .ref (G.ad 0 3)) hx hb hown hts hX hC in_X4 rfl (cin rfl) rfl 2 (by decide) q244 (fun _ h => h) rfl dX4_passes_54 ?_
    refine lv_iconst (v := 0) hx hb dX4_passes_57 rfl ?_
    refine lv_iload_n hx hb dX4_passes_58 rfl (lv_at hl 0 rfl) ?_
    refine lv_iconst (v := (-1)) hx hb dX4_passes_59 rfl ?_
    refine fw_join (C := (p_nb (d 3) (d 4)) = (-1)) (a := d 3) (b := p_nb (d 3) (d 4)) (pcj := 73) (ls := ls) (rest := [.int 0, .ref (G.ad 0 3)]) (fun ja jb => ?_) ?_
    · refine lv_icmp_ne (tgt := 72) hx hb dX4_passes_60 (by decide) (fun c_5 => ?_) (fun c_5 => ?_)
      · refine lv_iload_n hx hb dX4_passes_72 rfl (lv_at hl 0 rfl) ?_
        exact jb c_5
      · refine lv_aload_n hx hb dX4_passes_63 rfl (lv_at hl 1 rfl) ?_
        refine fg_get (C := RX4) (T := TX4) (N := 9) (ci := 0) (g := 0) (i := 0) (v := .ref (G.ad 0 3)) hx hb hown hts hX hC in_X4 rfl (cin rfl) rfl 2 (by decide) q244 (fun _ h => h) rfl dX4_passes_64 ?_
        refine lv_iconst (v := 0) hx hb dX4_passes_67 rfl ?_
        refine fg_iald (g := 0) (i := 3) (t0 := 0) (v := d 3) hx hb hX hC (cin rfl) rfl rfl (vin_b rfl) rfl dX4_passes_68 ?_
        refine lv_goto (tgt := 73) hx hb dX4_passes_69 (by decide) ?_
        exact ja c_5
    refine fg_iast (g := 0) (i := 3) (t0 := 0) hx hb hX hC (cin rfl) rfl rfl (vin_b rfl) (cct G (pg (upd (upd d 4 (if (p_nb (d 3) (d 4)) = (-1) then rm ((d 4) + 1) 4 else d 4)) 3 (if (p_nb (d 3) (d 4)) = (-1) then d 3 else p_nb (d 3) (d 4))) kp as un to sc fd tp sh) sp) (cs_mouse (k := 0) (by decide)) dX4_passes_73 (fun H locs hC => ?_)
    refine lv_aload_n hx hb dX4_passes_74 rfl (lv_at hl 1 rfl) ?_
    refine fg_get (C := RX4) (T := TX4) (N := 9) (ci := 0) (g := 0) (i := 0) (v := .ref (G.ad 0 3)) hx hb hown hts hX hC in_X4 rfl (cin rfl) rfl 2 (by decide) q244 (fun _ h => h) rfl dX4_passes_75 ?_
    refine lv_iconst (v := 4) hx hb dX4_passes_78 rfl ?_
    refine lv_aload_n hx hb dX4_passes_79 rfl (lv_at hl 1 rfl) ?_
    refine fg_get (C := RX4) (T := TX4) (N := 9) (ci := 0) (g := 0) (i := 0) (v := .ref (G.ad 0 3)) hx hb hown hts hX hC in_X4 rfl (cin rfl) rfl 2 (by decide) q244 (fun _ h => h) rfl dX4_passes_80 ?_
    refine lv_iconst (v := 4) hx hb dX4_passes_83 rfl ?_
    refine fg_iald (g := 0) (i := 3) (t0 := 0) (v := d 7) hx hb hX hC (cin rfl) rfl rfl (vin_b rfl) rfl dX4_passes_84 ?_
    refine lv_iconst (v := 1) hx hb dX4_passes_85 rfl ?_
    refine lv_iadd hx hb dX4_passes_86 ?_
    refine lv_aload_n hx hb dX4_passes_87 rfl (lv_at hl 1 rfl) ?_
    refine fg_get (C := RX4) (T := TX4) (N := 9) (ci := 0) (g := 0) (i := 0) (v := .ref (G.ad 0 3)) hx hb hown hts hX hC in_X4 rfl (cin rfl) rfl 2 (by decide) q244 (fun _ h => h) rfl dX4_passes_88 ?_
    refine lv_iconst (v := 2) hx hb dX4_passes_91 rfl ?_
    refine fg_iald (g := 0) (i := 3) (t0 := 0) (v := d 5) hx hb hX hC (cin rfl) rfl rfl (vin_b rfl) rfl dX4_passes_92 ?_
    refine lv_aload_n hx hb dX4_passes_93 rfl (lv_at hl 1 rfl) ?_
    refine fg_get (C := RX4) (T := TX4) (N := 9) (ci := 0) (g := 0) (i := 0) (v := .ref (G.ad 0 3)) hx hb hown hts hX hC in_X4 rfl (cin rfl) rfl 2 (by decide) q244 (fun _ h => h) rfl dX4_passes_94 ?_
    refine lv_iconst (v := 3) hx hb dX4_passes_97 rfl ?_
    refine fg_iald (g := 0) (i := 3) (t0 := 0) (v := d 6) hx hb hX hC (cin rfl) rfl rfl (vin_b rfl) rfl dX4_passes_98 ?_
    refine lv_iadd hx hb dX4_passes_99 ?_
    refine fw_irem hx hb dX4_passes_100 hw.rp ?_
    refine fg_iast (g := 0) (i := 3) (t0 := 0) hx hb hX hC (cin rfl) rfl rfl (vin_b rfl) (cct G (pg (upd (upd (upd d 4 (if (p_nb (d 3) (d 4)) = (-1) then rm ((d 4) + 1) 4 else d 4)) 3 (if (p_nb (d 3) (d 4)) = (-1) then d 3 else p_nb (d 3) (d 4))) 7 (rm ((d 7) + 1) ((d 5) + (d 6)))) kp as un to sc fd tp sh) sp) (cs_mouse (k := 4) (by decide)) dX4_passes_101 (fun H locs hC => ?_)
    refine lv_aload_n hx hb dX4_passes_102 rfl (lv_at hl 1 rfl) ?_
    refine lv_dup hx hb dX4_passes_103 rfl ?_
    refine fg_get (C := RX4) (T := TX4) (N := 9) (ci := 0) (g := 0) (i := 0) (v := .int (d 0)) hx hb hown hts hX hC in_X4 rfl (cin rfl) rfl 6 (by decide) q258 (fun _ h => h) rfl dX4_passes_104 ?_
    refine lv_iconst (v := 1) hx hb dX4_passes_107 rfl ?_
    refine lv_iadd hx hb dX4_passes_108 ?_
    refine fg_put (C := RX4) (T := TX4) (N := 9) (ci := 0) (g := 0) (i := 0) hx hb hown hts hX hC in_X4 tyX4 tyX4_ok nmX4 rfl (cin rfl) rfl 6 (by decide) q258 (fun _ h => h) rfl rfl rfl (Nat.le_of_ble_eq_true rfl) (cct G (pg (upd (upd (upd (upd d 4 (if (p_nb (d 3) (d 4)) = (-1) then rm ((d 4) + 1) 4 else d 4)) 3 (if (p_nb (d 3) (d 4)) = (-1) then d 3 else p_nb (d 3) (d 4))) 7 (rm ((d 7) + 1) ((d 5) + (d 6)))) 0 ((d 0) + 1)) kp as un to sc fd tp sh) sp) cs_tick dX4_passes_109 (fun H locs hC => ?_)
    exact fr_v hx hb hr hlocks hX hC () rfl (congrArg (fun z => cct G (pg z kp as un to sc fd tp sh) sp) (by rw [p_tick, if_pos c_3])) dX4_passes_112
set_option maxRecDepth 100000 in
theorem m_X4_draw {l : Launch} {G : Gc} {d kp as un to sc fd tp sh : Row} {sp : Nat → Option Nat}  : Cm l yX4_draw (ws_ yX4_draw cX4_draw 1 (some .int)) ({ frames := 0, cells := 0, slots := 0, locals := 0 }) (cF G) [.ref (G.ad 0 0)] (cct G (pg d kp as un to sc fd tp sh) sp) (fun _ : Unit => some (.int (ush (p_z (d 2)) 8))) (fun _ => cct G (pg (upd d 2 (p_z (d 2))) kp as un to sc fd tp sh) sp) := by
  refine Cm.start (by decide) (Nat.le_of_ble_eq_true rfl) ?_
  intro p e s m below meth c hf hX hC ls hl
  obtain ⟨hx, hb, hr, hml, hown, hts, hlocks⟩ := hf
  have hl : lv_has ls 1 [(0, .ref (G.ad 0 0))] := hl
  have hown : s.vm.findClass "OwlEars$World" = some m.cls := hown
  refine lv_aload_n hx hb dX4_draw_0 rfl (lv_at hl 0 rfl) ?_
  refine lv_aload_n hx hb dX4_draw_1 rfl (lv_at hl 0 rfl) ?_
  refine fg_get (C := RX4) (T := TX4) (N := 9) (ci := 0) (g := 0) (i := 0) (v := .int (d 2)) hx hb hown hts hX hC in_X4 rfl (cin rfl) rfl 7 (by decide) q260 (fun _ h => h) rfl dX4_draw_2 ?_
  refine lv_ldc (v := 1103515245) hx hb hown (hts _ q1038) dX4_draw_5 ?_
  refine lv_imul hx hb dX4_draw_7 ?_
  refine lv_sipush (v := 12345) hx hb dX4_draw_8 rfl ?_
  refine lv_iadd hx hb dX4_draw_11 ?_
  refine fg_put (C := RX4) (T := TX4) (N := 9) (ci := 0) (g := 0) (i := 0) hx hb hown hts hX hC in_X4 tyX4 tyX4_ok nmX4 rfl (cin rfl) rfl 7 (by decide) q260 (fun _ h => h) rfl rfl rfl (Nat.le_of_ble_eq_true rfl) (cct G (pg (upd d 2 (((d 2) * 1103515245) + 12345)) kp as un to sc fd tp sh) sp) cs_z dX4_draw_12 (fun H locs hC => ?_)
  refine lv_aload_n hx hb dX4_draw_15 rfl (lv_at hl 0 rfl) ?_
  refine fg_get (C := RX4) (T := TX4) (N := 9) (ci := 0) (g := 0) (i := 0) (v := .int (((d 2) * 1103515245) + 12345)) hx hb hown hts hX hC in_X4 rfl (cin rfl) rfl 7 (by decide) q260 (fun _ h => h) rfl dX4_draw_16 ?_
  refine lv_bipush (v := 8) hx hb dX4_draw_19 rfl ?_
  refine fw_iushr hx hb dX4_draw_21 ?_
  exact fr_i hx hb hr hlocks hX hC () (congrArg (fun z => some (Value.int z)) (by first | rfl | (simp []))) (congrArg (fun z => cct G (pg z kp as un to sc fd tp sh) sp) (by first | rfl | (simp []))) dX4_draw_22
set_option maxRecDepth 100000 in
theorem m_X4_isLate {l : Launch} {G : Gc} {d kp as un to sc fd tp sh : Row} {sp : Nat → Option Nat} (n : Int32) : Cm l yX4_isLate (ws_ yX4_isLate cX4_isLate 2 (some .boolean)) ({ frames := 0, cells := 0, slots := 0, locals := 0 }) (cF G) [.ref (G.ad 0 0), .int n] (cct G (pg d kp as un to sc fd tp sh) sp) (fun _ : Unit => some (.int (b2i (99999 < d 0 + n)))) (fun _ => cct G (pg d kp as un to sc fd tp sh) sp) := by
  refine Cm.start (by decide) (Nat.le_of_ble_eq_true rfl) ?_
  intro p e s m below meth c hf hX hC ls hl
  obtain ⟨hx, hb, hr, hml, hown, hts, hlocks⟩ := hf
  have hl : lv_has ls 2 [(0, .ref (G.ad 0 0)), (1, .int n)] := hl
  have hown : s.vm.findClass "OwlEars$World" = some m.cls := hown
  refine lv_aload_n hx hb dX4_isLate_0 rfl (lv_at hl 0 rfl) ?_
  refine fg_get (C := RX4) (T := TX4) (N := 9) (ci := 0) (g := 0) (i := 0) (v := .int (d 0)) hx hb hown hts hX hC in_X4 rfl (cin rfl) rfl 6 (by decide) q258 (fun _ h => h) rfl dX4_isLate_1 ?_
  refine lv_iload_n hx hb dX4_isLate_4 rfl (lv_at hl 1 rfl) ?_
  refine lv_iadd hx hb dX4_isLate_5 ?_
  refine lv_ldc (v := 99999) hx hb hown (hts _ q786) dX4_isLate_6 ?_
  refine fj_le (tgt := 15) hx hb dX4_isLate_8 (by decide) (fun c_1 => ?_) (fun c_1 => ?_)
  · refine lv_iconst (v := 0) hx hb dX4_isLate_15 rfl ?_
    exact fr_z hx hb hr rfl hlocks hX hC () (congrArg (fun z => some (Value.int z)) (b2i_f (by first | rfl | (simp [c_1])))) rfl dX4_isLate_16
  · refine lv_iconst (v := 1) hx hb dX4_isLate_11 rfl ?_
    refine lv_goto (tgt := 16) hx hb dX4_isLate_12 (by decide) ?_
    exact fr_z hx hb hr rfl hlocks hX hC () (congrArg (fun z => some (Value.int z)) (b2i_t (by first | rfl | (simp [c_1])))) rfl dX4_isLate_16
set_option maxRecDepth 100000 in
theorem m_X4_snows {l : Launch} {G : Gc} {d kp as un to sc fd tp sh : Row} {sp : Nat → Option Nat}  : Cm l yX4_snows (ws_ yX4_snows cX4_snows 6 (some .int)) ({ frames := 0, cells := 0, slots := 0, locals := 0 }) (cF G) [.ref (G.ad 0 0)] (cct G (pg d kp as un to sc fd tp sh) sp) (fun _ : Unit => some (.int (p_sum (fun k => d (20 + k)) 36))) (fun _ => cct G (pg d kp as un to sc fd tp sh) sp) := by
  refine Cm.start (by decide) (Nat.le_of_ble_eq_true rfl) ?_
  intro p e s m below meth c hf hX hC ls hl
  obtain ⟨hx, hb, hr, hml, hown, hts, hlocks⟩ := hf
  have hl : lv_has ls 6 [(0, .ref (G.ad 0 0))] := hl
  have hown : s.vm.findClass "OwlEars$World" = some m.cls := hown
  refine lv_iconst (v := 0) hx hb dX4_snows_0 rfl ?_
  refine lv_istore_n (lv' := [(1, .int 0), (0, .ref (G.ad 0 0))]) hx hb dX4_snows_1 rfl hl (by decide) rfl (fun ls hl => ?_)
  refine lv_aload_n hx hb dX4_snows_2 rfl (lv_at hl 1 rfl) ?_
  refine fg_get (C := RX4) (T := TX4) (N := 9) (ci := 0) (g := 0) (i := 0) (v := .ref (G.ad 0 1)) hx hb hown hts hX hC in_X4 rfl (cin rfl) rfl 0 (by decide) q238 (fun _ h => h) rfl dX4_snows_3 ?_
  refine lv_astore_n (lv' := [(2, .ref (G.ad 0 1)), (1, .int 0), (0, .ref (G.ad 0 0))]) hx hb dX4_snows_6 rfl hl (by decide) rfl (fun ls hl => ?_)
  refine lv_aload_n hx hb dX4_snows_7 rfl (lv_at hl 0 rfl) ?_
  refine fg_alen (g := 0) (i := 1) (t0 := 0) (v := 36) hx hb hX hC (cin rfl) rfl rfl rfl dX4_snows_8 ?_
  refine lv_istore_n (lv' := [(3, .int 36), (2, .ref (G.ad 0 1)), (1, .int 0), (0, .ref (G.ad 0 0))]) hx hb dX4_snows_9 rfl hl (by decide) rfl (fun ls hl => ?_)
  refine lv_iconst (v := 0) hx hb dX4_snows_10 rfl ?_
  refine lv_istore (lv' := [(4, .int 0), (3, .int 36), (2, .ref (G.ad 0 1)), (1, .int 0), (0, .ref (G.ad 0 0))]) hx hb dX4_snows_11 hl (by decide) rfl (fun ls hl => ?_)
  have L_1 : ∀ (k1 i1 : Nat), i1 + k1 = 36 → ∀ (H : Heap) (locs : List Loc), fC (cF G) (cct G (pg d kp as un to sc fd tp sh) sp) s.heap H locs → ∀ ls : Array Slot, lv_has ls 6 [(0, .ref (G.ad 0 0)), (1, .int (p_sum (fun k => d (20 + k)) i1)), (2, .ref (G.ad 0 1)), (3, .int 36), (4, .int (nI i1))] → WG p l e ({ frames := 0, cells := 0, slots := 0, locals := 0 }) s m (([.ref (G.ad 0 0)] : List Value).toArray) below meth c H locs (cF G) (fun _ : Unit => some (.int (p_sum (fun k => d (20 + k)) 36))) (fun _ => cct G (pg d kp as un to sc fd tp sh) sp) (F0 m 13 ls []) := by
    intro k1
    induction k1 with
    | zero =>
      intro i1 hi1 H locs hC ls hl
      obtain rfl : i1 = 36 := by omega
      refine lv_iload hx hb dX4_snows_13 (lv_at hl 4 rfl) ?_
      refine lv_iload_n hx hb dX4_snows_15 rfl (lv_at hl 3 rfl) ?_
      refine fj_ge (tgt := 36) hx hb dX4_snows_16 (by decide) (fun _ => ?_) (fun z_2 => absurd z_2 (nlt_ix (n := 36)))
      refine lv_iload_n hx hb dX4_snows_36 rfl (lv_at hl 1 rfl) ?_
      exact fr_i hx hb hr hlocks hX hC () rfl rfl dX4_snows_37
    | succ k1 ih1 =>
      intro i1 hi1 H locs hC ls hl
      refine lv_iload hx hb dX4_snows_13 (lv_at hl 4 rfl) ?_
      refine lv_iload_n hx hb dX4_snows_15 rfl (lv_at hl 3 rfl) ?_
      refine fj_ge (tgt := 36) hx hb dX4_snows_16 (by decide) (fun z_3 => absurd (lt_ix (n := 36) (show i1 < 36 by omega)) z_3) (fun _ => ?_)
      refine lv_aload_n hx hb dX4_snows_19 rfl (lv_at hl 2 rfl) ?_
      refine lv_iload hx hb dX4_snows_20 (lv_at hl 4 rfl) ?_
      refine fg_iald (g := 0) (i := 1) (t0 := 0) (v := d (20 + i1)) hx hb hX hC (cin rfl) rfl rfl (vp_in_nI (show i1 < 36 by omega) (by decide)) (congrArg (fun z => d (20 + z)) (nI_clamp (by omega))) dX4_snows_22 ?_
      refine lv_istore (lv' := [(5, .int (d (20 + i1))), (0, .ref (G.ad 0 0)), (1, .int (p_sum (fun k => d (20 + k)) i1)), (2, .ref (G.ad 0 1)), (3, .int 36), (4, .int (nI i1))]) hx hb dX4_snows_23 hl (by decide) rfl (fun ls hl => ?_)
      refine lv_iload_n hx hb dX4_snows_25 rfl (lv_at hl 2 rfl) ?_
      refine lv_iload hx hb dX4_snows_26 (lv_at hl 0 rfl) ?_
      refine lv_iadd hx hb dX4_snows_28 ?_
      refine lv_istore_n (lv' := [(1, .int ((p_sum (fun k => d (20 + k)) i1) + (d (20 + i1)))), (5, .int (d (20 + i1))), (0, .ref (G.ad 0 0)), (2, .ref (G.ad 0 1)), (3, .int 36), (4, .int (nI i1))]) hx hb dX4_snows_29 rfl hl (by decide) rfl (fun ls hl => ?_)
      refine lv_iinc (v := nI (i1 + 1)) (lv' := [(4, .int (nI (i1 + 1))), (1, .int ((p_sum (fun k => d (20 + k)) i1) + (d (20 + i1)))), (5, .int (d (20 + i1))), (0, .ref (G.ad 0 0)), (2, .ref (G.ad 0 1)), (3, .int 36)]) hx hb dX4_snows_30 hl (k := 5) rfl (nI_1 _) (by decide) rfl (fun ls hl => ?_)
      refine lv_goto (tgt := 13) hx hb dX4_snows_33 (by decide) ?_
      exact ih1 (i1 + 1) (by omega) _ _ hC ls (lv_sub hl [3, 1, 4, 5, 0] rfl)
  exact L_1 36 0 (by omega) _ _ hC ls (lv_sub hl [4, 3, 2, 1, 0] rfl)
set_option maxRecDepth 100000 in
theorem m_X4_noisy {l : Launch} {G : Gc} {d kp as un to sc fd tp sh : Row} {sp : Nat → Option Nat}  : Cm l yX4_noisy (ws_ yX4_noisy cX4_noisy 6 (some .int)) ({ frames := 0, cells := 0, slots := 0, locals := 0 }) (cF G) [.ref (G.ad 0 0)] (cct G (pg d kp as un to sc fd tp sh) sp) (fun _ : Unit => some (.int (p_sum (fun k => if 0 < d (56 + k) then 1 else 0) 36))) (fun _ => cct G (pg d kp as un to sc fd tp sh) sp) := by
  refine Cm.start (by decide) (Nat.le_of_ble_eq_true rfl) ?_
  intro p e s m below meth c hf hX hC ls hl
  obtain ⟨hx, hb, hr, hml, hown, hts, hlocks⟩ := hf
  have hl : lv_has ls 6 [(0, .ref (G.ad 0 0))] := hl
  have hown : s.vm.findClass "OwlEars$World" = some m.cls := hown
  refine lv_iconst (v := 0) hx hb dX4_noisy_0 rfl ?_
  refine lv_istore_n (lv' := [(1, .int 0), (0, .ref (G.ad 0 0))]) hx hb dX4_noisy_1 rfl hl (by decide) rfl (fun ls hl => ?_)
  refine lv_aload_n hx hb dX4_noisy_2 rfl (lv_at hl 1 rfl) ?_
  refine fg_get (C := RX4) (T := TX4) (N := 9) (ci := 0) (g := 0) (i := 0) (v := .ref (G.ad 0 2)) hx hb hown hts hX hC in_X4 rfl (cin rfl) rfl 1 (by decide) q241 (fun _ h => h) rfl dX4_noisy_3 ?_
  refine lv_astore_n (lv' := [(2, .ref (G.ad 0 2)), (1, .int 0), (0, .ref (G.ad 0 0))]) hx hb dX4_noisy_6 rfl hl (by decide) rfl (fun ls hl => ?_)
  refine lv_aload_n hx hb dX4_noisy_7 rfl (lv_at hl 0 rfl) ?_
  refine fg_alen (g := 0) (i := 2) (t0 := 0) (v := 36) hx hb hX hC (cin rfl) rfl rfl rfl dX4_noisy_8 ?_
  refine lv_istore_n (lv' := [(3, .int 36), (2, .ref (G.ad 0 2)), (1, .int 0), (0, .ref (G.ad 0 0))]) hx hb dX4_noisy_9 rfl hl (by decide) rfl (fun ls hl => ?_)
  refine lv_iconst (v := 0) hx hb dX4_noisy_10 rfl ?_
  refine lv_istore (lv' := [(4, .int 0), (3, .int 36), (2, .ref (G.ad 0 2)), (1, .int 0), (0, .ref (G.ad 0 0))]) hx hb dX4_noisy_11 hl (by decide) rfl (fun ls hl => ?_)
  have L_1 : ∀ (k1 i1 : Nat), i1 + k1 = 36 → ∀ (H : Heap) (locs : List Loc), fC (cF G) (cct G (pg d kp as un to sc fd tp sh) sp) s.heap H locs → ∀ ls : Array Slot, lv_has ls 6 [(0, .ref (G.ad 0 0)), (1, .int (p_sum (fun k => if 0 < d (56 + k) then 1 else 0) i1)), (2, .ref (G.ad 0 2)), (3, .int 36), (4, .int (nI i1))] → WG p l e ({ frames := 0, cells := 0, slots := 0, locals := 0 }) s m (([.ref (G.ad 0 0)] : List Value).toArray) below meth c H locs (cF G) (fun _ : Unit => some (.int (p_sum (fun k => if 0 < d (56 + k) then 1 else 0) 36))) (fun _ => cct G (pg d kp as un to sc fd tp sh) sp) (F0 m 13 ls []) := by
    intro k1
    induction k1 with
    | zero =>
      intro i1 hi1 H locs hC ls hl
      obtain rfl : i1 = 36 := by omega
      refine lv_iload hx hb dX4_noisy_13 (lv_at hl 4 rfl) ?_
      refine lv_iload_n hx hb dX4_noisy_15 rfl (lv_at hl 3 rfl) ?_
      refine fj_ge (tgt := 44) hx hb dX4_noisy_16 (by decide) (fun _ => ?_) (fun z_2 => absurd z_2 (nlt_ix (n := 36)))
      refine lv_iload_n hx hb dX4_noisy_44 rfl (lv_at hl 1 rfl) ?_
      exact fr_i hx hb hr hlocks hX hC () rfl rfl dX4_noisy_45
    | succ k1 ih1 =>
      intro i1 hi1 H locs hC ls hl
      refine lv_iload hx hb dX4_noisy_13 (lv_at hl 4 rfl) ?_
      refine lv_iload_n hx hb dX4_noisy_15 rfl (lv_at hl 3 rfl) ?_
      refine fj_ge (tgt := 44) hx hb dX4_noisy_16 (by decide) (fun z_3 => absurd (lt_ix (n := 36) (show i1 < 36 by omega)) z_3) (fun _ => ?_)
      refine lv_aload_n hx hb dX4_noisy_19 rfl (lv_at hl 2 rfl) ?_
      refine lv_iload hx hb dX4_noisy_20 (lv_at hl 4 rfl) ?_
      refine fg_iald (g := 0) (i := 2) (t0 := 0) (v := d (56 + i1)) hx hb hX hC (cin rfl) rfl rfl (vp_in_nI (show i1 < 36 by omega) (by decide)) (congrArg (fun z => d (56 + z)) (nI_clamp (by omega))) dX4_noisy_22 ?_
      refine lv_istore (lv' := [(5, .int (d (56 + i1))), (0, .ref (G.ad 0 0)), (1, .int (p_sum (fun k => if 0 < d (56 + k) then 1 else 0) i1)), (2, .ref (G.ad 0 2)), (3, .int 36), (4, .int (nI i1))]) hx hb dX4_noisy_23 hl (by decide) rfl (fun ls hl => ?_)
      refine lv_iload_n hx hb dX4_noisy_25 rfl (lv_at hl 2 rfl) ?_
      refine lv_iload hx hb dX4_noisy_26 (lv_at hl 0 rfl) ?_
      refine fw_joinb (C := 0 < (d (56 + i1))) (pcj := 36) (ls := ls) (rest := [.int (p_sum (fun k => if 0 < d (56 + k) then 1 else 0) i1)]) (fun ja jb => ?_) ?_
      · refine fi_le (tgt := 35) hx hb dX4_noisy_28 (by decide) (fun c_4 => ?_) (fun c_4 => ?_)
        · refine lv_iconst (v := 0) hx hb dX4_noisy_35 rfl ?_
          exact jb c_4
        · refine lv_iconst (v := 1) hx hb dX4_noisy_31 rfl ?_
          refine lv_goto (tgt := 36) hx hb dX4_noisy_32 (by decide) ?_
          exact ja c_4
      refine lv_iadd hx hb dX4_noisy_36 ?_
      refine lv_istore_n (lv' := [(1, .int ((p_sum (fun k => if 0 < d (56 + k) then 1 else 0) i1) + (b2i (0 < (d (56 + i1)))))), (5, .int (d (56 + i1))), (0, .ref (G.ad 0 0)), (2, .ref (G.ad 0 2)), (3, .int 36), (4, .int (nI i1))]) hx hb dX4_noisy_37 rfl hl (by decide) rfl (fun ls hl => ?_)
      refine lv_iinc (v := nI (i1 + 1)) (lv' := [(4, .int (nI (i1 + 1))), (1, .int ((p_sum (fun k => if 0 < d (56 + k) then 1 else 0) i1) + (b2i (0 < (d (56 + i1)))))), (5, .int (d (56 + i1))), (0, .ref (G.ad 0 0)), (2, .ref (G.ad 0 2)), (3, .int 36)]) hx hb dX4_noisy_38 hl (k := 5) rfl (nI_1 _) (by decide) rfl (fun ls hl => ?_)
      refine lv_goto (tgt := 13) hx hb dX4_noisy_41 (by decide) ?_
      exact ih1 (i1 + 1) (by omega) _ _ hC ls (lv_sub hl [3, 1, 4, 5, 0] rfl)
  exact L_1 36 0 (by omega) _ _ hC ls (lv_sub hl [4, 3, 2, 1, 0] rfl)
set_option maxRecDepth 100000 in
theorem m_X4_had {l : Launch} {G : Gc} {d kp as un to sc fd tp sh : Row} {sp : Nat → Option Nat} (hw : WF d)  : Cm l yX4_had (ws_ yX4_had cX4_had 3 (some .int)) ({ frames := 0, cells := 0, slots := 0, locals := 0 }) (cF G) [.ref (G.ad 0 0)] (cct G (pg d kp as un to sc fd tp sh) sp) (fun _ : Unit => some (.int (p_sum (fun k => d (95 + 4 * k)) (ix (d 1))))) (fun _ => cct G (pg d kp as un to sc fd tp sh) sp) := by
  refine Cm.start (by decide) (Nat.le_of_ble_eq_true rfl) ?_
  intro p e s m below meth c hf hX hC ls hl
  obtain ⟨hx, hb, hr, hml, hown, hts, hlocks⟩ := hf
  have hl : lv_has ls 3 [(0, .ref (G.ad 0 0))] := hl
  have hown : s.vm.findClass "OwlEars$World" = some m.cls := hown
  refine lv_iconst (v := 0) hx hb dX4_had_0 rfl ?_
  refine lv_istore_n (lv' := [(1, .int 0), (0, .ref (G.ad 0 0))]) hx hb dX4_had_1 rfl hl (by decide) rfl (fun ls hl => ?_)
  refine lv_iconst (v := 0) hx hb dX4_had_2 rfl ?_
  refine lv_istore_n (lv' := [(2, .int 0), (1, .int 0), (0, .ref (G.ad 0 0))]) hx hb dX4_had_3 rfl hl (by decide) rfl (fun ls hl => ?_)
  have L_1 : ∀ (k1 i1 : Nat), i1 + k1 = ix (d 1) → ∀ (H : Heap) (locs : List Loc), fC (cF G) (cct G (pg d kp as un to sc fd tp sh) sp) s.heap H locs → ∀ ls : Array Slot, lv_has ls 3 [(2, .int (nI i1)), (1, .int (p_sum (fun k => d (95 + 4 * k)) i1)), (0, .ref (G.ad 0 0))] → WG p l e ({ frames := 0, cells := 0, slots := 0, locals := 0 }) s m (([.ref (G.ad 0 0)] : List Value).toArray) below meth c H locs (cF G) (fun _ : Unit => some (.int (p_sum (fun k => d (95 + 4 * k)) (ix (d 1))))) (fun _ => cct G (pg d kp as un to sc fd tp sh) sp) (F0 m 4 ls []) := by
    intro k1
    induction k1 with
    | zero =>
      intro i1 hi1 H locs hC ls hl
      obtain rfl : i1 = ix (d 1) := by omega
      refine lv_iload_n hx hb dX4_had_4 rfl (lv_at hl 0 rfl) ?_
      refine lv_aload_n hx hb dX4_had_5 rfl (lv_at hl 2 rfl) ?_
      refine fg_get (C := RX4) (T := TX4) (N := 9) (ci := 0) (g := 0) (i := 0) (v := .int (d 1)) hx hb hown hts hX hC in_X4 rfl (cin rfl) rfl 4 (by decide) q251 (fun _ h => h) rfl dX4_had_6 ?_
      refine fj_ge (tgt := 29) hx hb dX4_had_9 (by decide) (fun _ => ?_) (fun z_2 => absurd z_2 (nlt_ix (n := d 1)))
      refine lv_iload_n hx hb dX4_had_29 rfl (lv_at hl 1 rfl) ?_
      exact fr_i hx hb hr hlocks hX hC () rfl rfl dX4_had_30
    | succ k1 ih1 =>
      intro i1 hi1 H locs hC ls hl
      have hz1 : i1 < 2147483648 := by have := ix_lt (d 1); omega
      refine lv_iload_n hx hb dX4_had_4 rfl (lv_at hl 0 rfl) ?_
      refine lv_aload_n hx hb dX4_had_5 rfl (lv_at hl 2 rfl) ?_
      refine fg_get (C := RX4) (T := TX4) (N := 9) (ci := 0) (g := 0) (i := 0) (v := .int (d 1)) hx hb hown hts hX hC in_X4 rfl (cin rfl) rfl 4 (by decide) q251 (fun _ h => h) rfl dX4_had_6 ?_
      refine fj_ge (tgt := 29) hx hb dX4_had_9 (by decide) (fun z_3 => absurd (lt_ix (n := d 1) (show i1 < ix (d 1) by omega)) z_3) (fun _ => ?_)
      refine lv_iload_n hx hb dX4_had_12 rfl (lv_at hl 1 rfl) ?_
      refine lv_aload_n hx hb dX4_had_13 rfl (lv_at hl 2 rfl) ?_
      refine fg_get (C := RX4) (T := TX4) (N := 9) (ci := 0) (g := 0) (i := 0) (v := .ref (G.ad 0 5)) hx hb hown hts hX hC in_X4 rfl (cin rfl) rfl 5 (by decide) q254 (fun _ h => h) rfl dX4_had_14 ?_
      refine lv_iconst (v := 3) hx hb dX4_had_17 rfl ?_
      refine fg_ald (g := 0) (i := 5) (t0 := 1) (ty := .array .int) (v := .ref (G.ad 0 9)) hx hb hX hC (cin rfl) rfl rfl rfl (vin_b rfl) rfl dX4_had_18 ?_
      refine lv_iload_n hx hb dX4_had_19 rfl (lv_at hl 0 rfl) ?_
      refine fg_iald (g := 0) (i := 9) (t0 := 0) (v := d (95 + 4 * i1)) hx hb hX hC (cin rfl) rfl rfl (vp_in_nI (show i1 < 8 by have := vin_lt hw.many; omega) (by decide)) (congrArg (fun z => d (95 + 4 * z)) (nI_clamp (by omega))) dX4_had_20 ?_
      refine lv_iadd hx hb dX4_had_21 ?_
      refine lv_istore_n (lv' := [(1, .int ((p_sum (fun k => d (95 + 4 * k)) i1) + (d (95 + 4 * i1)))), (2, .int (nI i1)), (0, .ref (G.ad 0 0))]) hx hb dX4_had_22 rfl hl (by decide) rfl (fun ls hl => ?_)
      refine lv_iinc (v := nI (i1 + 1)) (lv' := [(2, .int (nI (i1 + 1))), (1, .int ((p_sum (fun k => d (95 + 4 * k)) i1) + (d (95 + 4 * i1)))), (0, .ref (G.ad 0 0))]) hx hb dX4_had_23 hl (k := 1) rfl (nI_1 _) (by decide) rfl (fun ls hl => ?_)
      refine lv_goto (tgt := 4) hx hb dX4_had_26 (by decide) ?_
      exact ih1 (i1 + 1) (by omega) _ _ hC ls (lv_sub hl [0, 1, 2] rfl)
  exact L_1 (ix (d 1)) 0 (by omega) _ _ hC ls (lv_sub hl [0, 1, 2] rfl)
