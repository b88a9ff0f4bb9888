theorem hdI_J0_init_2 : yJ0_init_2.cls ≠ "java/lang/invoke/MethodHandle" ∧ yJ0_init_2.cls ≠ "java/lang/invoke/VarHandle" ∧ (parseMethodDescriptor yJ0_init_2.desc).map (fun d => d.parameters.length) = some 4 := by decide +kernel
theorem hdI_J1_init : yJ1_init.cls ≠ "java/lang/invoke/MethodHandle" ∧ yJ1_init.cls ≠ "java/lang/invoke/VarHandle" ∧ (parseMethodDescriptor yJ1_init.desc).map (fun d => d.parameters.length) = some 4 := by decide +kernel
theorem hdI_J2_init : yJ2_init.cls ≠ "java/lang/invoke/MethodHandle" ∧ yJ2_init.cls ≠ "java/lang/invoke/VarHandle" ∧ (parseMethodDescriptor yJ2_init.desc).map (fun d => d.parameters.length) = some 4 := by decide +kernel
theorem zq_of {C n d : String} {A : Nat → Prop} {U : State} {H : Heap} (h : va_Zq C n d A U H) : ∃ v : Value, (v = .null ∨ ∃ t, v = .ref t) ∧ va_Z C n d v A U H := by
  rcases h with h | ⟨t, h⟩
  · exact ⟨_, Or.inl rfl, h⟩
  · exact ⟨_, Or.inr ⟨t, rfl⟩, h⟩
set_option maxRecDepth 100000 in
theorem i_J0_init_X1 {l : Launch} {D : va_G} {ca : Nat → ClassId} {adK adV : Nat → Nat} {base : Nat} {w : va_W} {a : Nat}  : Cn l yJ0_init_2 (ws_ yJ0_init_2 cJ0_init_2 5 none) ({ frames := 1, cells := 0, slots := 0, locals := 13 }) (xC ca D adK adV) base [.ref (a), .null, .null, .int 0, .int 0] (w ++ [(a, .inr (2, [.null, .null, .null, .null, .null, .int 0, .int 0]))]) (fun _ : Unit => none) (fun u => w ++ [(a, .inr (2, [.null, .null, .null, .null, .null, .int 0, .int 0]))]) 0 0 := by
  refine Cn.start (by decide) (Nat.le_of_ble_eq_true rfl) ?_
  intro p e s m below meth c hf hin2 hX hC ls hl
  obtain ⟨hx, hb, hr, hml, hown, hts, hlocks⟩ := hf
  have hl : lv_has ls 5 [(0, .ref (a)), (1, .null), (2, .null), (3, .int 0), (4, .int 0)] := hl
  have hown : s.vm.findClass "java/lang/Throwable" = some m.cls := hown
  have hin2 : meth.name = "<init>" := hin2
  refine lv_aload_n hx hb dJ0_init_2_0 rfl (lv_at hl 0 rfl) ?_
  refine W.objInit hx hb hown (hts _ q166) (hts _ q139) (hts _ q140) rfl (by rw [hml]; exact hl.1) rfl dJ0_init_2_1 (Nat.le_of_ble_eq_true rfl) (Nat.le_of_ble_eq_true rfl) ?_
  refine W.eq (g2 := F0 m 4 ls []) rfl ?_
  refine lv_aload_n hx hb dJ0_init_2_4 rfl (lv_at hl 0 rfl) ?_
  refine lv_aload_n hx hb dJ0_init_2_5 rfl (lv_at hl 0 rfl) ?_
  refine nn_put (C := RX1) (T := TX1) (N := 7) (ci := 2) (w1 := w ++ [(a, .inr (2, [.ref (a), .null, .null, .null, .null, .int 0, .int 0]))]) hx hb hown hts hX hC in_X1 tyX1 tyX1_ok nmX1 (w.length + 0) (nth_r (w := w) (k := 0) rfl) rfl 0 (by decide) q196 (fun _ h => h) rfl rfl rfl (Nat.le_of_ble_eq_true rfl) set_r dJ0_init_2_6 (fun H locs hC => ?_)
  refine lv_aload_n hx hb dJ0_init_2_9 rfl (lv_at hl 0 rfl) ?_
  obtain ⟨z1, hz1, hZ1⟩ := zq_of hX.2.2.2.2.2.2.1
  refine va_gets hx hb hZ1 hC.2.2 hown (hts _ q167) (fun _ h => h) dJ0_init_2_10 ?_
  refine nn_put (C := RX1) (T := TX1) (N := 7) (ci := 2) (w1 := w ++ [(a, .inr (2, [.ref (a), z1, .null, .null, .null, .int 0, .int 0]))]) hx hb hown hts hX hC in_X1 tyX1 tyX1_ok nmX1 (w.length + 0) (nth_r (w := w) (k := 0) rfl) rfl 1 (by decide) q197 (fun _ h => h) rfl (by rcases hz1 with rfl | ⟨_, rfl⟩ <;> rfl) (by rcases hz1 with rfl | ⟨_, rfl⟩ <;> rfl) (Nat.le_of_ble_eq_true rfl) set_r dJ0_init_2_13 (fun H locs hC => ?_)
  refine lv_aload_n hx hb dJ0_init_2_16 rfl (lv_at hl 0 rfl) ?_
  obtain ⟨z2, hz2, hZ2⟩ := zq_of hX.2.2.2.2.2.2.2
  refine va_gets hx hb hZ2 hC.2.2 hown (hts _ q169) (fun _ h => h) dJ0_init_2_17 ?_
  refine nn_put (C := RX1) (T := TX1) (N := 7) (ci := 2) (w1 := w ++ [(a, .inr (2, [.ref (a), z1, z2, .null, .null, .int 0, .int 0]))]) hx hb hown hts hX hC in_X1 tyX1 tyX1_ok nmX1 (w.length + 0) (nth_r (w := w) (k := 0) rfl) rfl 2 (by decide) q198 (fun _ h => h) rfl (by rcases hz2 with rfl | ⟨_, rfl⟩ <;> rfl) (by rcases hz2 with rfl | ⟨_, rfl⟩ <;> rfl) (Nat.le_of_ble_eq_true rfl) set_r dJ0_init_2_20 (fun H locs hC => ?_)
  refine lv_iload hx hb dJ0_init_2_23 (lv_at hl 4 rfl) ?_
  refine lv_if_eq (tgt := 36) hx hb dJ0_init_2_25 (by decide) (fun _ => ?_) (fun z_1 => absurd (by decide) z_1)
  refine lv_aload_n hx hb dJ0_init_2_36 rfl (lv_at hl 0 rfl) ?_
  refine lv_null hx hb dJ0_init_2_37 ?_
  refine nn_put (C := RX1) (T := TX1) (N := 7) (ci := 2) (w1 := w ++ [(a, .inr (2, [.ref (a), .null, z2, .null, .null, .int 0, .int 0]))]) hx hb hown hts hX hC in_X1 tyX1 tyX1_ok nmX1 (w.length + 0) (nth_r (w := w) (k := 0) rfl) rfl 1 (by decide) q197 (fun _ h => h) rfl rfl rfl (Nat.le_of_ble_eq_true rfl) set_r dJ0_init_2_38 (fun H locs hC => ?_)
  refine lv_aload_n hx hb dJ0_init_2_41 rfl (lv_at hl 0 rfl) ?_
  refine lv_aload_nN hx hb dJ0_init_2_42 rfl (lv_at hl 1 rfl) ?_
  refine nn_put (C := RX1) (T := TX1) (N := 7) (ci := 2) (w1 := w ++ [(a, .inr (2, [.ref (a), .null, z2, .null, .null, .int 0, .int 0]))]) hx hb hown hts hX hC in_X1 tyX1 tyX1_ok nmX1 (w.length + 0) (nth_r (w := w) (k := 0) rfl) rfl 3 (by decide) q195 (fun _ h => h) rfl rfl rfl (Nat.le_of_ble_eq_true rfl) set_r dJ0_init_2_43 (fun H locs hC => ?_)
  refine lv_aload_n hx hb dJ0_init_2_46 rfl (lv_at hl 0 rfl) ?_
  refine lv_aload_nN hx hb dJ0_init_2_47 rfl (lv_at hl 2 rfl) ?_
  refine nn_put (C := RX1) (T := TX1) (N := 7) (ci := 2) (w1 := w ++ [(a, .inr (2, [.null, .null, z2, .null, .null, .int 0, .int 0]))]) hx hb hown hts hX hC in_X1 tyX1 tyX1_ok nmX1 (w.length + 0) (nth_r (w := w) (k := 0) rfl) rfl 0 (by decide) q196 (fun _ h => h) rfl rfl rfl (Nat.le_of_ble_eq_true rfl) set_r dJ0_init_2_48 (fun H locs hC => ?_)
  refine lv_iload_n hx hb dJ0_init_2_51 rfl (lv_at hl 3 rfl) ?_
  refine lv_if_ne (tgt := 60) hx hb dJ0_init_2_52 (by decide) (fun z_2 => absurd (by decide) z_2) (fun _ => ?_)
  refine lv_aload_n hx hb dJ0_init_2_55 rfl (lv_at hl 0 rfl) ?_
  refine lv_null hx hb dJ0_init_2_56 ?_
  refine nn_put (C := RX1) (T := TX1) (N := 7) (ci := 2) (w1 := w ++ [(a, .inr (2, [.null, .null, .null, .null, .null, .int 0, .int 0]))]) hx hb hown hts hX hC in_X1 tyX1 tyX1_ok nmX1 (w.length + 0) (nth_r (w := w) (k := 0) rfl) rfl 2 (by decide) q198 (fun _ h => h) rfl rfl rfl (Nat.le_of_ble_eq_true rfl) set_r dJ0_init_2_57 (fun H locs hC => ?_)
  exact nn_vret hx hb hr hlocks hX hC () rfl rfl dJ0_init_2_60
set_option maxRecDepth 100000 in
theorem i_J1_init_X1 {l : Launch} {D : va_G} {ca : Nat → ClassId} {adK adV : Nat → Nat} {base : Nat} {w : va_W} {a : Nat}  : Cn l yJ1_init (ws_ yJ1_init cJ1_init 5 none) ({ frames := 2, cells := 0, slots := 0, locals := 37 }) (xC ca D adK adV) base [.ref (a), .null, .null, .int 0, .int 0] (w ++ [(a, .inr (2, [.null, .null, .null, .null, .null, .int 0, .int 0]))]) (fun _ : Unit => none) (fun u => w ++ [(a, .inr (2, [.null, .null, .null, .null, .null, .int 0, .int 0]))]) 0 0 := by
  refine Cn.start (by decide) (Nat.le_of_ble_eq_true rfl) ?_
  intro p e s m below meth c hf hin2 hX hC ls hl
  obtain ⟨hx, hb, hr, hml, hown, hts, hlocks⟩ := hf
  have hl : lv_has ls 5 [(0, .ref (a)), (1, .null), (2, .null), (3, .int 0), (4, .int 0)] := hl
  have hown : s.vm.findClass "java/lang/Exception" = some m.cls := hown
  have hin2 : meth.name = "<init>" := hin2
  refine lv_aload_n hx hb dJ1_init_0 rfl (lv_at hl 0 rfl) ?_
  refine lv_aload_nN hx hb dJ1_init_1 rfl (lv_at hl 1 rfl) ?_
  refine lv_aload_nN hx hb dJ1_init_2 rfl (lv_at hl 2 rfl) ?_
  refine lv_iload_n hx hb dJ1_init_3 rfl (lv_at hl 3 rfl) ?_
  refine lv_iload hx hb dJ1_init_4 (lv_at hl 4 rfl) ?_
  refine nn_callI (As := [.null, .null, .int 0, .int 0]) (rest := []) hx hb hml hown hts hX hC i_J0_init_X1 q190 q191 q109 q192 rfl hdI_J0_init_2 ⟨rfl, rfl⟩ ⟨Nat.le_of_ble_eq_true rfl, Nat.le_of_ble_eq_true rfl⟩ hl.1 rfl (Nat.le_of_ble_eq_true rfl) ⟨Nat.le_of_ble_eq_true rfl, Nat.le_of_ble_eq_true rfl⟩ dJ1_init_6 (fun _ H locs hC => ?_)
  have hC : nC (xC ca D adK adV) base (w ++ [(a, .inr (2, [.null, .null, .null, .null, .null, .int 0, .int 0]))]) s.heap H locs := hC
  refine W.eq (g2 := F0 m 9 ls []) rfl ?_
  exact nn_vret hx hb hr hlocks hX hC () rfl rfl dJ1_init_9
set_option maxRecDepth 100000 in
theorem i_J2_init_X1 {l : Launch} {D : va_G} {ca : Nat → ClassId} {adK adV : Nat → Nat} {base : Nat} {w : va_W} {a : Nat}  : Cn l yJ2_init (ws_ yJ2_init cJ2_init 5 none) ({ frames := 3, cells := 0, slots := 0, locals := 61 }) (xC ca D adK adV) base [.ref (a), .null, .null, .int 0, .int 0] (w ++ [(a, .inr (2, [.null, .null, .null, .null, .null, .int 0, .int 0]))]) (fun _ : Unit => none) (fun u => w ++ [(a, .inr (2, [.null, .null, .null, .null, .null, .int 0, .int 0]))]) 0 0 := by
  refine Cn.start (by decide) (Nat.le_of_ble_eq_true rfl) ?_
  intro p e s m below meth c hf hin2 hX hC ls hl
  obtain ⟨hx, hb, hr, hml, hown, hts, hlocks⟩ := hf
  have hl : lv_has ls 5 [(0, .ref (a)), (1, .null), (2, .null), (3, .int 0), (4, .int 0)] := hl
  have hown : s.vm.findClass "java/lang/RuntimeException" = some m.cls := hown
  have hin2 : meth.name = "<init>" := hin2
  refine lv_aload_n hx hb dJ2_init_0 rfl (lv_at hl 0 rfl) ?_
  refine lv_aload_nN hx hb dJ2_init_1 rfl (lv_at hl 1 rfl) ?_
  refine lv_aload_nN hx hb dJ2_init_2 rfl (lv_at hl 2 rfl) ?_
  refine lv_iload_n hx hb dJ2_init_3 rfl (lv_at hl 3 rfl) ?_
  refine lv_iload hx hb dJ2_init_4 (lv_at hl 4 rfl) ?_
  refine nn_callI (As := [.null, .null, .int 0, .int 0]) (rest := []) hx hb hml hown hts hX hC i_J1_init_X1 q187 q188 q110 q189 rfl hdI_J1_init ⟨rfl, rfl⟩ ⟨Nat.le_of_ble_eq_true rfl, Nat.le_of_ble_eq_true rfl⟩ hl.1 rfl (Nat.le_of_ble_eq_true rfl) ⟨Nat.le_of_ble_eq_true rfl, Nat.le_of_ble_eq_true rfl⟩ dJ2_init_6 (fun _ H locs hC => ?_)
  have hC : nC (xC ca D adK adV) base (w ++ [(a, .inr (2, [.null, .null, .null, .null, .null, .int 0, .int 0]))]) s.heap H locs := hC
  refine W.eq (g2 := F0 m 9 ls []) rfl ?_
  exact nn_vret hx hb hr hlocks hX hC () rfl rfl dJ2_init_9
set_option maxRecDepth 100000 in
theorem i_X1_init {l : Launch} {D : va_G} {ca : Nat → ClassId} {adK adV : Nat → Nat} {base : Nat} {w : va_W} {a : Nat}  : Cn l yX1_init (ws_ yX1_init cX1_init 1 none) ({ frames := 4, cells := 0, slots := 0, locals := 85 }) (xC ca D adK adV) base [.ref (a)] (w ++ [(a, .inr (2, [.null, .null, .null, .null, .null, .int 0, .int 0]))]) (fun _ : Unit => none) (fun u => w ++ [(a, .inr (2, [.null, .null, .null, .null, .null, .int 0, .int 0]))]) 0 0 := by
  refine Cn.start (by decide) (Nat.le_of_ble_eq_true rfl) ?_
  intro p e s m below meth c hf hin2 hX hC ls hl
  obtain ⟨hx, hb, hr, hml, hown, hts, hlocks⟩ := hf
  have hl : lv_has ls 1 [(0, .ref (a))] := hl
  have hown : s.vm.findClass "OwlEars$Refusal" = some m.cls := hown
  have hin2 : meth.name = "<init>" := hin2
  refine lv_aload_n hx hb dX1_init_0 rfl (lv_at hl 0 rfl) ?_
  refine lv_null hx hb dX1_init_1 ?_
  refine lv_null hx hb dX1_init_2 ?_
  refine lv_iconst (v := 0) hx hb dX1_init_3 rfl ?_
  refine lv_iconst (v := 0) hx hb dX1_init_4 rfl ?_
  refine nn_callI (As := [.null, .null, .int 0, .int 0]) (rest := []) hx hb hml hown hts hX hC i_J2_init_X1 q184 q185 q111 q186 rfl hdI_J2_init ⟨rfl, rfl⟩ ⟨Nat.le_of_ble_eq_true rfl, Nat.le_of_ble_eq_true rfl⟩ hl.1 rfl (Nat.le_of_ble_eq_true rfl) ⟨Nat.le_of_ble_eq_true rfl, Nat.le_of_ble_eq_true rfl⟩ dX1_init_5 (fun _ H locs hC => ?_)
  have hC : nC (xC ca D adK adV) base (w ++ [(a, .inr (2, [.null, .null, .null, .null, .null, .int 0, .int 0]))]) s.heap H locs := hC
  refine W.eq (g2 := F0 m 8 ls []) rfl ?_
  exact nn_vret hx hb hr hlocks hX hC () rfl rfl dX1_init_8
set_option maxRecDepth 100000 in
theorem i_J0_init_X3 {l : Launch} {D : va_G} {ca : Nat → ClassId} {adK adV : Nat → Nat} {base : Nat} {w : va_W} {a : Nat}  : Cn l yJ0_init_2 (ws_ yJ0_init_2 cJ0_init_2 5 none) ({ frames := 1, cells := 0, slots := 0, locals := 13 }) (xC ca D adK adV) base [.ref (a), .null, .null, .int 0, .int 0] (w ++ [(a, .inr (4, [.null, .null, .null, .null, .null, .int 0]))]) (fun _ : Unit => none) (fun u => w ++ [(a, .inr (4, [.null, .null, .null, .null, .null, .int 0]))]) 0 0 := by
  refine Cn.start (by decide) (Nat.le_of_ble_eq_true rfl) ?_
  intro p e s m below meth c hf hin2 hX hC ls hl
  obtain ⟨hx, hb, hr, hml, hown, hts, hlocks⟩ := hf
  have hl : lv_has ls 5 [(0, .ref (a)), (1, .null), (2, .null), (3, .int 0), (4, .int 0)] := hl
  have hown : s.vm.findClass "java/lang/Throwable" = some m.cls := hown
  have hin2 : meth.name = "<init>" := hin2
  refine lv_aload_n hx hb dJ0_init_2_0 rfl (lv_at hl 0 rfl) ?_
  refine W.objInit hx hb hown (hts _ q166) (hts _ q139) (hts _ q140) rfl (by rw [hml]; exact hl.1) rfl dJ0_init_2_1 (Nat.le_of_ble_eq_true rfl) (Nat.le_of_ble_eq_true rfl) ?_
  refine W.eq (g2 := F0 m 4 ls []) rfl ?_
  refine lv_aload_n hx hb dJ0_init_2_4 rfl (lv_at hl 0 rfl) ?_
  refine lv_aload_n hx hb dJ0_init_2_5 rfl (lv_at hl 0 rfl) ?_
  refine nn_put (C := RX3) (T := TX3) (N := 6) (ci := 4) (w1 := w ++ [(a, .inr (4, [.ref (a), .null, .null, .null, .null, .int 0]))]) hx hb hown hts hX hC in_X3 tyX3 tyX3_ok nmX3 (w.length + 0) (nth_r (w := w) (k := 0) rfl) rfl 0 (by decide) q196 (fun _ h => h) rfl rfl rfl (Nat.le_of_ble_eq_true rfl) set_r dJ0_init_2_6 (fun H locs hC => ?_)
  refine lv_aload_n hx hb dJ0_init_2_9 rfl (lv_at hl 0 rfl) ?_
  obtain ⟨z1, hz1, hZ1⟩ := zq_of hX.2.2.2.2.2.2.1
  refine va_gets hx hb hZ1 hC.2.2 hown (hts _ q167) (fun _ h => h) dJ0_init_2_10 ?_
  refine nn_put (C := RX3) (T := TX3) (N := 6) (ci := 4) (w1 := w ++ [(a, .inr (4, [.ref (a), z1, .null, .null, .null, .int 0]))]) hx hb hown hts hX hC in_X3 tyX3 tyX3_ok nmX3 (w.length + 0) (nth_r (w := w) (k := 0) rfl) rfl 1 (by decide) q197 (fun _ h => h) rfl (by rcases hz1 with rfl | ⟨_, rfl⟩ <;> rfl) (by rcases hz1 with rfl | ⟨_, rfl⟩ <;> rfl) (Nat.le_of_ble_eq_true rfl) set_r dJ0_init_2_13 (fun H locs hC => ?_)
  refine lv_aload_n hx hb dJ0_init_2_16 rfl (lv_at hl 0 rfl) ?_
  obtain ⟨z2, hz2, hZ2⟩ := zq_of hX.2.2.2.2.2.2.2
  refine va_gets hx hb hZ2 hC.2.2 hown (hts _ q169) (fun _ h => h) dJ0_init_2_17 ?_
  refine nn_put (C := RX3) (T := TX3) (N := 6) (ci := 4) (w1 := w ++ [(a, .inr (4, [.ref (a), z1, z2, .null, .null, .int 0]))]) hx hb hown hts hX hC in_X3 tyX3 tyX3_ok nmX3 (w.length + 0) (nth_r (w := w) (k := 0) rfl) rfl 2 (by decide) q198 (fun _ h => h) rfl (by rcases hz2 with rfl | ⟨_, rfl⟩ <;> rfl) (by rcases hz2 with rfl | ⟨_, rfl⟩ <;> rfl) (Nat.le_of_ble_eq_true rfl) set_r dJ0_init_2_20 (fun H locs hC => ?_)
  refine lv_iload hx hb dJ0_init_2_23 (lv_at hl 4 rfl) ?_
  refine lv_if_eq (tgt := 36) hx hb dJ0_init_2_25 (by decide) (fun _ => ?_) (fun z_1 => absurd (by decide) z_1)
  refine lv_aload_n hx hb dJ0_init_2_36 rfl (lv_at hl 0 rfl) ?_
  refine lv_null hx hb dJ0_init_2_37 ?_
  refine nn_put (C := RX3) (T := TX3) (N := 6) (ci := 4) (w1 := w ++ [(a, .inr (4, [.ref (a), .null, z2, .null, .null, .int 0]))]) hx hb hown hts hX hC in_X3 tyX3 tyX3_ok nmX3 (w.length + 0) (nth_r (w := w) (k := 0) rfl) rfl 1 (by decide) q197 (fun _ h => h) rfl rfl rfl (Nat.le_of_ble_eq_true rfl) set_r dJ0_init_2_38 (fun H locs hC => ?_)
  refine lv_aload_n hx hb dJ0_init_2_41 rfl (lv_at hl 0 rfl) ?_
  refine lv_aload_nN hx hb dJ0_init_2_42 rfl (lv_at hl 1 rfl) ?_
  refine nn_put (C := RX3) (T := TX3) (N := 6) (ci := 4) (w1 := w ++ [(a, .inr (4, [.ref (a), .null, z2, .null, .null, .int 0]))]) hx hb hown hts hX hC in_X3 tyX3 tyX3_ok nmX3 (w.length + 0) (nth_r (w := w) (k := 0) rfl) rfl 3 (by decide) q195 (fun _ h => h) rfl rfl rfl (Nat.le_of_ble_eq_true rfl) set_r dJ0_init_2_43 (fun H locs hC => ?_)
  refine lv_aload_n hx hb dJ0_init_2_46 rfl (lv_at hl 0 rfl) ?_
  refine lv_aload_nN hx hb dJ0_init_2_47 rfl (lv_at hl 2 rfl) ?_
  refine nn_put (C := RX3) (T := TX3) (N := 6) (ci := 4) (w1 := w ++ [(a, .inr (4, [.null, .null, z2, .null, .null, .int 0]))]) hx hb hown hts hX hC in_X3 tyX3 tyX3_ok nmX3 (w.length + 0) (nth_r (w := w) (k := 0) rfl) rfl 0 (by decide) q196 (fun _ h => h) rfl rfl rfl (Nat.le_of_ble_eq_true rfl) set_r dJ0_init_2_48 (fun H locs hC => ?_)
  refine lv_iload_n hx hb dJ0_init_2_51 rfl (lv_at hl 3 rfl) ?_
  refine lv_if_ne (tgt := 60) hx hb dJ0_init_2_52 (by decide) (fun z_2 => absurd (by decide) z_2) (fun _ => ?_)
  refine lv_aload_n hx hb dJ0_init_2_55 rfl (lv_at hl 0 rfl) ?_
  refine lv_null hx hb dJ0_init_2_56 ?_
  refine nn_put (C := RX3) (T := TX3) (N := 6) (ci := 4) (w1 := w ++ [(a, .inr (4, [.null, .null, .null, .null, .null, .int 0]))]) hx hb hown hts hX hC in_X3 tyX3 tyX3_ok nmX3 (w.length + 0) (nth_r (w := w) (k := 0) rfl) rfl 2 (by decide) q198 (fun _ h => h) rfl rfl rfl (Nat.le_of_ble_eq_true rfl) set_r dJ0_init_2_57 (fun H locs hC => ?_)
  exact nn_vret hx hb hr hlocks hX hC () rfl rfl dJ0_init_2_60
set_option maxRecDepth 100000 in
theorem i_J1_init_X3 {l : Launch} {D : va_G} {ca : Nat → ClassId} {adK adV : Nat → Nat} {base : Nat} {w : va_W} {a : Nat}  : Cn l yJ1_init (ws_ yJ1_init cJ1_init 5 none) ({ frames := 2, cells := 0, slots := 0, locals := 37 }) (xC ca D adK adV) base [.ref (a), .null, .null, .int 0, .int 0] (w ++ [(a, .inr (4, [.null, .null, .null, .null, .null, .int 0]))]) (fun _ : Unit => none) (fun u => w ++ [(a, .inr (4, [.null, .null, .null, .null, .null, .int 0]))]) 0 0 := by
  refine Cn.start (by decide) (Nat.le_of_ble_eq_true rfl) ?_
  intro p e s m below meth c hf hin2 hX hC ls hl
  obtain ⟨hx, hb, hr, hml, hown, hts, hlocks⟩ := hf
  have hl : lv_has ls 5 [(0, .ref (a)), (1, .null), (2, .null), (3, .int 0), (4, .int 0)] := hl
  have hown : s.vm.findClass "java/lang/Exception" = some m.cls := hown
  have hin2 : meth.name = "<init>" := hin2
  refine lv_aload_n hx hb dJ1_init_0 rfl (lv_at hl 0 rfl) ?_
  refine lv_aload_nN hx hb dJ1_init_1 rfl (lv_at hl 1 rfl) ?_
  refine lv_aload_nN hx hb dJ1_init_2 rfl (lv_at hl 2 rfl) ?_
  refine lv_iload_n hx hb dJ1_init_3 rfl (lv_at hl 3 rfl) ?_
  refine lv_iload hx hb dJ1_init_4 (lv_at hl 4 rfl) ?_
  refine nn_callI (As := [.null, .null, .int 0, .int 0]) (rest := []) hx hb hml hown hts hX hC i_J0_init_X3 q190 q191 q109 q192 rfl hdI_J0_init_2 ⟨rfl, rfl⟩ ⟨Nat.le_of_ble_eq_true rfl, Nat.le_of_ble_eq_true rfl⟩ hl.1 rfl (Nat.le_of_ble_eq_true rfl) ⟨Nat.le_of_ble_eq_true rfl, Nat.le_of_ble_eq_true rfl⟩ dJ1_init_6 (fun _ H locs hC => ?_)
  have hC : nC (xC ca D adK adV) base (w ++ [(a, .inr (4, [.null, .null, .null, .null, .null, .int 0]))]) s.heap H locs := hC
  refine W.eq (g2 := F0 m 9 ls []) rfl ?_
  exact nn_vret hx hb hr hlocks hX hC () rfl rfl dJ1_init_9
set_option maxRecDepth 100000 in
theorem i_J2_init_X3 {l : Launch} {D : va_G} {ca : Nat → ClassId} {adK adV : Nat → Nat} {base : Nat} {w : va_W} {a : Nat}  : Cn l yJ2_init (ws_ yJ2_init cJ2_init 5 none) ({ frames := 3, cells := 0, slots := 0, locals := 61 }) (xC ca D adK adV) base [.ref (a), .null, .null, .int 0, .int 0] (w ++ [(a, .inr (4, [.null, .null, .null, .null, .null, .int 0]))]) (fun _ : Unit => none) (fun u => w ++ [(a, .inr (4, [.null, .null, .null, .null, .null, .int 0]))]) 0 0 := by
  refine Cn.start (by decide) (Nat.le_of_ble_eq_true rfl) ?_
  intro p e s m below meth c hf hin2 hX hC ls hl
  obtain ⟨hx, hb, hr, hml, hown, hts, hlocks⟩ := hf
  have hl : lv_has ls 5 [(0, .ref (a)), (1, .null), (2, .null), (3, .int 0), (4, .int 0)] := hl
  have hown : s.vm.findClass "java/lang/RuntimeException" = some m.cls := hown
  have hin2 : meth.name = "<init>" := hin2
  refine lv_aload_n hx hb dJ2_init_0 rfl (lv_at hl 0 rfl) ?_
  refine lv_aload_nN hx hb dJ2_init_1 rfl (lv_at hl 1 rfl) ?_
  refine lv_aload_nN hx hb dJ2_init_2 rfl (lv_at hl 2 rfl) ?_
  refine lv_iload_n hx hb dJ2_init_3 rfl (lv_at hl 3 rfl) ?_
  refine lv_iload hx hb dJ2_init_4 (lv_at hl 4 rfl) ?_
  refine nn_callI (As := [.null, .null, .int 0, .int 0]) (rest := []) hx hb hml hown hts hX hC i_J1_init_X3 q187 q188 q110 q189 rfl hdI_J1_init ⟨rfl, rfl⟩ ⟨Nat.le_of_ble_eq_true rfl, Nat.le_of_ble_eq_true rfl⟩ hl.1 rfl (Nat.le_of_ble_eq_true rfl) ⟨Nat.le_of_ble_eq_true rfl, Nat.le_of_ble_eq_true rfl⟩ dJ2_init_6 (fun _ H locs hC => ?_)
  have hC : nC (xC ca D adK adV) base (w ++ [(a, .inr (4, [.null, .null, .null, .null, .null, .int 0]))]) s.heap H locs := hC
  refine W.eq (g2 := F0 m 9 ls []) rfl ?_
  exact nn_vret hx hb hr hlocks hX hC () rfl rfl dJ2_init_9
set_option maxRecDepth 100000 in
theorem i_X3_init {l : Launch} {D : va_G} {ca : Nat → ClassId} {adK adV : Nat → Nat} {base : Nat} {w : va_W} {a : Nat}  : Cn l yX3_init (ws_ yX3_init cX3_init 1 none) ({ frames := 4, cells := 0, slots := 0, locals := 85 }) (xC ca D adK adV) base [.ref (a)] (w ++ [(a, .inr (4, [.null, .null, .null, .null, .null, .int 0]))]) (fun _ : Unit => none) (fun u => w ++ [(a, .inr (4, [.null, .null, .null, .null, .null, .int 0]))]) 0 0 := by
  refine Cn.start (by decide) (Nat.le_of_ble_eq_true rfl) ?_
  intro p e s m below meth c hf hin2 hX hC ls hl
  obtain ⟨hx, hb, hr, hml, hown, hts, hlocks⟩ := hf
  have hl : lv_has ls 1 [(0, .ref (a))] := hl
  have hown : s.vm.findClass "OwlEars$Wrong" = some m.cls := hown
  have hin2 : meth.name = "<init>" := hin2
  refine lv_aload_n hx hb dX3_init_0 rfl (lv_at hl 0 rfl) ?_
  refine lv_null hx hb dX3_init_1 ?_
  refine lv_null hx hb dX3_init_2 ?_
  refine lv_iconst (v := 0) hx hb dX3_init_3 rfl ?_
  refine lv_iconst (v := 0) hx hb dX3_init_4 rfl ?_
  refine nn_callI (As := [.null, .null, .int 0, .int 0]) (rest := []) hx hb hml hown hts hX hC i_J2_init_X3 q227 q185 q111 q186 rfl hdI_J2_init ⟨rfl, rfl⟩ ⟨Nat.le_of_ble_eq_true rfl, Nat.le_of_ble_eq_true rfl⟩ hl.1 rfl (Nat.le_of_ble_eq_true rfl) ⟨Nat.le_of_ble_eq_true rfl, Nat.le_of_ble_eq_true rfl⟩ dX3_init_5 (fun _ H locs hC => ?_)
  have hC : nC (xC ca D adK adV) base (w ++ [(a, .inr (4, [.null, .null, .null, .null, .null, .int 0]))]) s.heap H locs := hC
  refine W.eq (g2 := F0 m 8 ls []) rfl ?_
  exact nn_vret hx hb hr hlocks hX hC () rfl rfl dX3_init_8
