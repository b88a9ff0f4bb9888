theorem hdV_X2_byteAt : yX2_byteAt.cls = RX2 ∧ yX2_byteAt.cls ≠ "java/lang/invoke/MethodHandle" ∧ yX2_byteAt.cls ≠ "java/lang/invoke/VarHandle" ∧ (parseMethodDescriptor yX2_byteAt.desc).map (fun d => d.parameters.length) = some 1 := by decide +kernel
theorem hdS_X2_isDigit : yX2_isDigit.cls ≠ "java/lang/invoke/MethodHandle" ∧ yX2_isDigit.cls ≠ "java/lang/invoke/VarHandle" ∧ (parseMethodDescriptor yX2_isDigit.desc).map (fun d => d.parameters.length) = some 1 := by decide +kernel
theorem hdV_X2_need : yX2_need.cls = RX2 ∧ yX2_need.cls ≠ "java/lang/invoke/MethodHandle" ∧ yX2_need.cls ≠ "java/lang/invoke/VarHandle" ∧ (parseMethodDescriptor yX2_need.desc).map (fun d => d.parameters.length) = some 1 := by decide +kernel
set_option maxRecDepth 100000 in
theorem m_X2_byteAt {l : Launch} {G : Gc} {d kp as un to sc fd tp sh : Row} {sp : Nat → Option Nat} {L a b : Nat} {t v : Int32} (hL : L ≤ 120) (k : Nat) (hk : k < 1000) : Cm l yX2_byteAt (ws_ yX2_byteAt cX2_byteAt 2 (some .int)) ({ frames := 0, cells := 0, slots := 0, locals := 0 }) (cF G) [.ref (G.ad 5 2), .int (nI k)] (cct G (pg d kp as un to (rd sc L a b t v) fd tp sh) sp) (fun _ : Unit => some (.int (p_byte tp L k))) (fun _ => cct G (pg d kp as un to (rd sc L a b t v) fd tp sh) sp) := by
  refine Cm.start (by decide) (Nat.le_of_ble_eq_true rfl) ?_
  intro p e s m below meth c hf hX hC ls hl
  obtain ⟨hx, hb, hr, hml, hown, hts, hlocks⟩ := hf
  have hl : lv_has ls 2 [(0, .ref (G.ad 5 2)), (1, .int (nI k))] := hl
  have hown : s.vm.findClass "OwlEars$Reader" = some m.cls := hown
  refine lv_iload_n hx hb dX2_byteAt_0 rfl (lv_at hl 1 rfl) ?_
  refine lv_aload_n hx hb dX2_byteAt_1 rfl (lv_at hl 0 rfl) ?_
  refine fg_get (C := RX2) (T := TX2) (N := 8) (ci := 3) (g := 5) (i := 2) (v := .int (nI L)) hx hb hown hts hX hC in_X2 rfl (cin rfl) rfl 3 (by decide) q290 (fun _ h => h) rfl dX2_byteAt_2 ?_
  refine fj_ge (tgt := 21) hx hb dX2_byteAt_5 (by decide) (fun c_1 => ?_) (fun c_1 => ?_)
  · refine lv_iconst (v := (-1)) hx hb dX2_byteAt_21 rfl ?_
    exact fr_i hx hb hr hlocks hX hC () (congrArg (fun z => some (Value.int z)) (by rw [p_byte, if_neg (fun z => c_1 ((lt_nI (by omega) (by omega)).mpr z))])) rfl dX2_byteAt_22
  · refine lv_aload_n hx hb dX2_byteAt_8 rfl (lv_at hl 0 rfl) ?_
    refine fg_get (C := RX2) (T := TX2) (N := 8) (ci := 3) (g := 5) (i := 2) (v := .ref (G.ad 5 4)) hx hb hown hts hX hC in_X2 rfl (cin rfl) rfl 1 (by decide) q286 (fun _ h => h) rfl dX2_byteAt_9 ?_
    refine lv_iload_n hx hb dX2_byteAt_12 rfl (lv_at hl 1 rfl) ?_
    refine fg_bald (g := 5) (i := 4) (t0 := 2) (v := tp k) hx hb hX hC (cin rfl) rfl rfl (vp_in_nI (show k < 120 by have := (lt_nI (by omega) (by omega)).mp c_1; omega) (by decide)) (congrArg (fun z => tp (z)) (nI_clamp (by omega))) dX2_byteAt_13 ?_
    refine lv_sipush (v := 255) hx hb dX2_byteAt_14 rfl ?_
    refine lv_iand hx hb dX2_byteAt_17 ?_
    refine lv_goto (tgt := 22) hx hb dX2_byteAt_18 (by decide) ?_
    exact fr_i hx hb hr hlocks hX hC () (congrArg (fun z => some (Value.int z)) (by rw [p_byte, if_pos ((lt_nI (by omega) (by omega)).mp c_1)])) rfl dX2_byteAt_22
set_option maxRecDepth 100000 in
theorem m_X2_isDigit {l : Launch} {F : Fam} {ct : Ct} (c0 : Int32) : Cm l yX2_isDigit (ws_ yX2_isDigit cX2_isDigit 1 (some .boolean)) ({ frames := 1, cells := 0, slots := 0, locals := 22 }) F [.int c0] (ct) (fun _ : Unit => some (.int (b2i (isDg c0)))) (fun _ => ct) := by
  refine Cm.start (by decide) (Nat.le_of_ble_eq_true rfl) ?_
  intro p e s m below meth c hf hX hC ls hl
  obtain ⟨hx, hb, hr, hml, hown, hts, hlocks⟩ := hf
  have hl : lv_has ls 1 [(0, .int c0)] := hl
  have hown : s.vm.findClass "OwlEars$Reader" = some m.cls := hown
  refine lv_iload_n hx hb dX2_isDigit_0 rfl (lv_at hl 0 rfl) ?_
  refine lv_bipush (v := 48) hx hb dX2_isDigit_1 rfl ?_
  refine lv_bipush (v := 57) hx hb dX2_isDigit_3 rfl ?_
  refine fc_SN (As := [.int c0, .int 48, .int 57]) (rest := []) hx hb hml hown hts hX hC (m_X0_in c0 48 57) (hX.2.2.1.M q1082) q470 q108 q471 hdS_X0_in ⟨rfl, rfl⟩ ⟨Nat.le_of_ble_eq_true rfl, Nat.le_of_ble_eq_true rfl⟩ hl.1 rfl (Nat.le_of_ble_eq_true rfl) ⟨Nat.zero_le _, Nat.zero_le _⟩ dX2_isDigit_5 (fun _ H locs hC => ?_)
  refine W.eq (g2 := F0 m 8 ls [.int (b2i (p_in c0 48 57))]) rfl ?_
  exact fr_z hx hb hr nar_b2i hlocks hX hC () (congrArg (fun z => some (Value.int z)) (b2i_c (Iff.rfl))) rfl dX2_isDigit_8
set_option maxRecDepth 100000 in
theorem m_X2_isLetter {l : Launch} {F : Fam} {ct : Ct} (c0 : Int32) : Cm l yX2_isLetter (ws_ yX2_isLetter cX2_isLetter 1 (some .boolean)) ({ frames := 1, cells := 0, slots := 0, locals := 22 }) F [.int c0] (ct) (fun _ : Unit => some (.int (b2i (isLt c0)))) (fun _ => ct) := by
  refine Cm.start (by decide) (Nat.le_of_ble_eq_true rfl) ?_
  intro p e s m below meth c hf hX hC ls hl
  obtain ⟨hx, hb, hr, hml, hown, hts, hlocks⟩ := hf
  have hl : lv_has ls 1 [(0, .int c0)] := hl
  have hown : s.vm.findClass "OwlEars$Reader" = some m.cls := hown
  refine lv_iload_n hx hb dX2_isLetter_0 rfl (lv_at hl 0 rfl) ?_
  refine lv_bipush (v := 97) hx hb dX2_isLetter_1 rfl ?_
  refine lv_bipush (v := 122) hx hb dX2_isLetter_3 rfl ?_
  refine fc_SN (As := [.int c0, .int 97, .int 122]) (rest := []) hx hb hml hown hts hX hC (m_X0_in c0 97 122) (hX.2.2.1.M q1082) q470 q108 q471 hdS_X0_in ⟨rfl, rfl⟩ ⟨Nat.le_of_ble_eq_true rfl, Nat.le_of_ble_eq_true rfl⟩ hl.1 rfl (Nat.le_of_ble_eq_true rfl) ⟨Nat.zero_le _, Nat.zero_le _⟩ dX2_isLetter_5 (fun _ H locs hC => ?_)
  refine W.eq (g2 := F0 m 8 ls [.int (b2i (p_in c0 97 122))]) rfl ?_
  exact fr_z hx hb hr nar_b2i hlocks hX hC () (congrArg (fun z => some (Value.int z)) (b2i_c (Iff.rfl))) rfl dX2_isLetter_8
set_option maxRecDepth 100000 in
theorem m_X2_isWord {l : Launch} {G : Gc} {d kp as un to sc fd tp sh : Row} {sp : Nat → Option Nat} {L a b : Nat} {t v : Int32} (hL : L ≤ 120) (w0 : Int32) : Cm l yX2_isWord (ws_ yX2_isWord cX2_isWord 2 (some .boolean)) ({ frames := 0, cells := 0, slots := 0, locals := 0 }) (cF G) [.ref (G.ad 5 2), .int w0] (cct G (pg d kp as un to (rd sc L a b t v) fd tp sh) sp) (fun _ : Unit => some (.int (b2i (t = 2 ∧ v = w0)))) (fun _ => cct G (pg d kp as un to (rd sc L a b t v) fd tp sh) sp) := by
  refine Cm.start (by decide) (Nat.le_of_ble_eq_true rfl) ?_
  intro p e s m below meth c hf hX hC ls hl
  obtain ⟨hx, hb, hr, hml, hown, hts, hlocks⟩ := hf
  have hl : lv_has ls 2 [(0, .ref (G.ad 5 2)), (1, .int w0)] := hl
  have hown : s.vm.findClass "OwlEars$Reader" = some m.cls := hown
  refine lv_aload_n hx hb dX2_isWord_0 rfl (lv_at hl 0 rfl) ?_
  refine fg_get (C := RX2) (T := TX2) (N := 8) (ci := 3) (g := 5) (i := 2) (v := .int t) hx hb hown hts hX hC in_X2 rfl (cin rfl) rfl 6 (by decide) q295 (fun _ h => h) rfl dX2_isWord_1 ?_
  refine lv_iconst (v := 2) hx hb dX2_isWord_4 rfl ?_
  refine lv_icmp_ne (tgt := 20) hx hb dX2_isWord_5 (by decide) (fun c_1 => ?_) (fun c_1 => ?_)
  · refine lv_iconst (v := 0) hx hb dX2_isWord_20 rfl ?_
    exact fr_z hx hb hr rfl hlocks hX hC () (congrArg (fun z => some (Value.int z)) (b2i_f (by first | rfl | (simp [c_1])))) rfl dX2_isWord_21
  · refine lv_aload_n hx hb dX2_isWord_8 rfl (lv_at hl 0 rfl) ?_
    refine fg_get (C := RX2) (T := TX2) (N := 8) (ci := 3) (g := 5) (i := 2) (v := .int v) hx hb hown hts hX hC in_X2 rfl (cin rfl) rfl 7 (by decide) q296 (fun _ h => h) rfl dX2_isWord_9 ?_
    refine lv_iload_n hx hb dX2_isWord_12 rfl (lv_at hl 1 rfl) ?_
    refine lv_icmp_ne (tgt := 20) hx hb dX2_isWord_13 (by decide) (fun c_2 => ?_) (fun c_2 => ?_)
    · refine lv_iconst (v := 0) hx hb dX2_isWord_20 rfl ?_
      exact fr_z hx hb hr rfl hlocks hX hC () (congrArg (fun z => some (Value.int z)) (b2i_f (by first | rfl | (simp [c_1, c_2])))) rfl dX2_isWord_21
    · refine lv_iconst (v := 1) hx hb dX2_isWord_16 rfl ?_
      refine lv_goto (tgt := 21) hx hb dX2_isWord_17 (by decide) ?_
      exact fr_z hx hb hr rfl hlocks hX hC () (congrArg (fun z => some (Value.int z)) (b2i_t (by first | rfl | (simp [c_1, c_2])))) rfl dX2_isWord_21
set_option maxRecDepth 100000 in
theorem m_X2_need_t {l : Launch} {G : Gc} {d kp as un to sc fd tp sh : Row} {sp : Nat → Option Nat} (P9 : Prop) [Decidable P9] (h9 : P9)  : Cm l yX2_need (ws_ yX2_need cX2_need 2 none) ({ frames := 0, cells := 0, slots := 0, locals := 0 }) (cF G) [.ref (G.ad 5 2), .int (b2i P9)] (cct G (pg d kp as un to sc fd tp sh) sp) (fun _ : Unit => none) (fun _ => cct G (pg d kp as un to sc fd tp sh) sp) := by
  refine Cm.start (by decide) (Nat.le_of_ble_eq_true rfl) ?_
  intro p e s m below meth c hf hX hC ls hl
  obtain ⟨hx, hb, hr, hml, hown, hts, hlocks⟩ := hf
  have hl : lv_has ls 2 [(0, .ref (G.ad 5 2)), (1, .int (b2i P9))] := hl
  have hown : s.vm.findClass "OwlEars$Reader" = some m.cls := hown
  refine lv_iload_n hx hb dX2_need_0 rfl (lv_at hl 1 rfl) ?_
  refine fb_ne (tgt := 9) hx hb dX2_need_1 (by decide) (fun _ => ?_) (fun z_1 => absurd h9 z_1)
  exact fr_v hx hb hr hlocks hX hC () rfl rfl dX2_need_9
set_option maxRecDepth 100000 in
theorem m_X2_need_f {l : Launch} {G : Gc} {d kp as un to sc fd tp sh : Row} {sp : Nat → Option Nat} (P9 : Prop) [Decidable P9] (h9 : ¬ P9)  : CmX l yX2_need (ws_ yX2_need cX2_need 2 none) ({ frames := 0, cells := 0, slots := 0, locals := 0 }) (cF G) [.ref (G.ad 5 2), .int (b2i P9)] (cct G (pg d kp as un to sc fd tp sh) sp) (fun _ : Unit => .threw (G.ad 5 3)) (fun _ => cct G (pg d kp as un to sc fd tp sh) sp) := by
  refine CmX.start (by decide) (Nat.le_of_ble_eq_true rfl) ?_
  intro p e s m below meth c hf hE hX hC ls hl
  obtain ⟨hx, hb, hr, hml, hown, hts, hlocks⟩ := hf
  have hl : lv_has ls 2 [(0, .ref (G.ad 5 2)), (1, .int (b2i P9))] := hl
  have hown : s.vm.findClass "OwlEars$Reader" = some m.cls := hown
  refine lv_iload_n hx hb dX2_need_0 rfl (lv_at hl 1 rfl) ?_
  refine fb_ne (tgt := 9) hx hb dX2_need_1 (by decide) (fun z_1 => absurd z_1 h9) (fun _ => ?_)
  refine lv_aload_n hx hb dX2_need_4 rfl (lv_at hl 0 rfl) ?_
  refine fg_get (C := RX2) (T := TX2) (N := 8) (ci := 3) (g := 5) (i := 2) (v := .ref (G.ad 5 3)) hx hb hown hts hX hC in_X2 rfl (cin rfl) rfl 0 (by decide) q285 (fun _ h => h) rfl dX2_need_5 ?_
  refine fx_athrow hx hb dX2_need_8 ?_
  exact fx_out hlocks hX hC hE rfl () rfl rfl
set_option maxRecDepth 100000 in
theorem m_X2_need_1 {l : Launch} {G : Gc} {d kp as un to sc fd tp sh : Row} {sp : Nat → Option Nat}  : Cm l yX2_need (ws_ yX2_need cX2_need 2 none) ({ frames := 0, cells := 0, slots := 0, locals := 0 }) (cF G) [.ref (G.ad 5 2), .int 1] (cct G (pg d kp as un to sc fd tp sh) sp) (fun _ : Unit => none) (fun _ => cct G (pg d kp as un to sc fd tp sh) sp) := by
  refine Cm.start (by decide) (Nat.le_of_ble_eq_true rfl) ?_
  intro p e s m below meth c hf hX hC ls hl
  obtain ⟨hx, hb, hr, hml, hown, hts, hlocks⟩ := hf
  have hl : lv_has ls 2 [(0, .ref (G.ad 5 2)), (1, .int 1)] := hl
  have hown : s.vm.findClass "OwlEars$Reader" = some m.cls := hown
  refine lv_iload_n hx hb dX2_need_0 rfl (lv_at hl 1 rfl) ?_
  refine lv_if_ne (tgt := 9) hx hb dX2_need_1 (by decide) (fun _ => ?_) (fun z_1 => absurd z_1 (by decide))
  exact fr_v hx hb hr hlocks hX hC () rfl rfl dX2_need_9
set_option maxRecDepth 100000 in
theorem m_X2_need_0 {l : Launch} {G : Gc} {d kp as un to sc fd tp sh : Row} {sp : Nat → Option Nat}  : CmX l yX2_need (ws_ yX2_need cX2_need 2 none) ({ frames := 0, cells := 0, slots := 0, locals := 0 }) (cF G) [.ref (G.ad 5 2), .int 0] (cct G (pg d kp as un to sc fd tp sh) sp) (fun _ : Unit => .threw (G.ad 5 3)) (fun _ => cct G (pg d kp as un to sc fd tp sh) sp) := by
  refine CmX.start (by decide) (Nat.le_of_ble_eq_true rfl) ?_
  intro p e s m below meth c hf hE hX hC ls hl
  obtain ⟨hx, hb, hr, hml, hown, hts, hlocks⟩ := hf
  have hl : lv_has ls 2 [(0, .ref (G.ad 5 2)), (1, .int 0)] := hl
  have hown : s.vm.findClass "OwlEars$Reader" = some m.cls := hown
  refine lv_iload_n hx hb dX2_need_0 rfl (lv_at hl 1 rfl) ?_
  refine lv_if_ne (tgt := 9) hx hb dX2_need_1 (by decide) (fun z_1 => absurd (by decide) z_1) (fun _ => ?_)
  refine lv_aload_n hx hb dX2_need_4 rfl (lv_at hl 0 rfl) ?_
  refine fg_get (C := RX2) (T := TX2) (N := 8) (ci := 3) (g := 5) (i := 2) (v := .ref (G.ad 5 3)) hx hb hown hts hX hC in_X2 rfl (cin rfl) rfl 0 (by decide) q285 (fun _ h => h) rfl dX2_need_5 ?_
  refine fx_athrow hx hb dX2_need_8 ?_
  exact fx_out hlocks hX hC hE rfl () rfl rfl
set_option maxRecDepth 100000 in
theorem m_X2_digits_t {l : Launch} {G : Gc} {d kp as un to sc fd tp sh : Row} {sp : Nat → Option Nat} {L a b : Nat} {t v : Int32} (hL : L ≤ 120) (ha : a ≤ 120) (hv : ¬ 999 < (p_dig tp L (121 - a) a 0).2) : Cm l yX2_digits (ws_ yX2_digits cX2_digits 2 none) ({ frames := 2, cells := 0, slots := 0, locals := 42 }) (cF G) [.ref (G.ad 5 2)] (cct G (pg d kp as un to (rd sc L a b t v) fd tp sh) sp) (fun _ : Unit => none) (fun _ => cct G (pg d kp as un to (rd sc L ((p_dig tp L (121 - a) a 0).1) b 1 ((p_dig tp L (121 - a) a 0).2)) fd tp sh) sp) := by
  refine Cm.start (by decide) (Nat.le_of_ble_eq_true rfl) ?_
  intro p e s m below meth c hf hX hC ls hl
  obtain ⟨hx, hb, hr, hml, hown, hts, hlocks⟩ := hf
  have hl : lv_has ls 2 [(0, .ref (G.ad 5 2))] := hl
  have hown : s.vm.findClass "OwlEars$Reader" = some m.cls := hown
  refine lv_iconst (v := 0) hx hb dX2_digits_0 rfl ?_
  refine lv_istore_n (lv' := [(1, .int 0), (0, .ref (G.ad 5 2))]) hx hb dX2_digits_1 rfl hl (by decide) rfl (fun ls hl => ?_)
  have L_1 : ∀ (k1 i1 : Nat), i1 + k1 = 121 → ∀ x1 : Int32, p_dig tp L (121 - a) a 0 = p_dig tp L k1 i1 x1 → ∀ (H : Heap) (locs : List Loc), fC (cF G) (cct G (pg d kp as un to (rd sc L i1 b t v) fd tp sh) sp) s.heap H locs → ∀ ls : Array Slot, lv_has ls 2 [(1, .int x1), (0, .ref (G.ad 5 2))] → WG p l e ({ frames := 2, cells := 0, slots := 0, locals := 42 }) s m (([.ref (G.ad 5 2)] : List Value).toArray) below meth c H locs (cF G) (fun _ : Unit => none) (fun _ => cct G (pg d kp as un to (rd sc L ((p_dig tp L (121 - a) a 0).1) b 1 ((p_dig tp L (121 - a) a 0).2)) fd tp sh) sp) (F0 m 2 ls []) := by
    intro k1
    induction k1 with
    | zero =>
      intro i1 hi1 x1 hJ1 H locs hC ls hl
      obtain rfl : i1 = 121 := by omega
      refine lv_aload_n hx hb dX2_digits_2 rfl (lv_at hl 1 rfl) ?_
      refine lv_aload_n hx hb dX2_digits_3 rfl (lv_at hl 1 rfl) ?_
      refine fg_get (C := RX2) (T := TX2) (N := 8) (ci := 3) (g := 5) (i := 2) (v := .int (nI 121)) hx hb hown hts hX hC in_X2 rfl (cin rfl) rfl 4 (by decide) q292 (fun _ h => h) rfl dX2_digits_4 ?_
      refine fc_V (As := [.int (nI 121)]) (rest := []) hx hb hml hown hts hX hC (m_X2_byteAt (sc := sc) (L := L) (a := 121) (b := b) (t := t) (v := v) hL 121 (by omega)) (lw_V q1075 q1077 qs37 q113 q1078) hdV_X2_byteAt ⟨rfl, rfl⟩ ⟨Nat.le_of_ble_eq_true rfl, Nat.le_of_ble_eq_true rfl⟩ (fx_recv (g := 5) (i := 2) (ci := 3) (q := (RX2, TX2, 8)) hX hC (cin rfl) rfl rfl) hl.1 rfl (Nat.le_of_ble_eq_true rfl) ⟨Nat.zero_le _, Nat.zero_le _⟩ dX2_digits_7 (fun _ H locs hC => ?_)
      refine W.eq (g2 := F0 m 10 ls [.int (p_byte tp L 121)]) rfl ?_
      refine fc_S (As := [.int (p_byte tp L 121)]) (rest := []) hx hb hml hown hts hX hC (m_X2_isDigit (p_byte tp L 121)) (lw_S q1136 q1137 q113 q1138) hdS_X2_isDigit ⟨rfl, rfl⟩ ⟨Nat.le_of_ble_eq_true rfl, Nat.le_of_ble_eq_true rfl⟩ hl.1 rfl (Nat.le_of_ble_eq_true rfl) ⟨Nat.zero_le _, Nat.zero_le _⟩ dX2_digits_10 (fun _ H locs hC => ?_)
      refine W.eq (g2 := F0 m 13 ls [.int (b2i (isDg (p_byte tp L 121)))]) rfl ?_
      refine fb_eq (tgt := 57) hx hb dX2_digits_13 (by decide) (fun _ => ?_) (fun z_4 => absurd z_4 (by rw [byte_out (by omega)]; decide))
      have hq : p_dig tp L (121 - a) a 0 = (121, x1) := hJ1
      refine lv_aload_n hx hb dX2_digits_57 rfl (lv_at hl 1 rfl) ?_
      refine lv_iconst (v := 1) hx hb dX2_digits_58 rfl ?_
      refine fg_put (C := RX2) (T := TX2) (N := 8) (ci := 3) (g := 5) (i := 2) hx hb hown hts hX hC in_X2 tyX2 tyX2_ok nmX2 rfl (cin rfl) rfl 6 (by decide) q295 (fun _ h => h) rfl rfl rfl (Nat.le_of_ble_eq_true rfl) (cct G (pg d kp as un to (rd sc L 121 b 1 v) fd tp sh) sp) cs_rd dX2_digits_59 (fun H locs hC => ?_)
      refine lv_aload_n hx hb dX2_digits_62 rfl (lv_at hl 1 rfl) ?_
      refine lv_iload_n hx hb dX2_digits_63 rfl (lv_at hl 0 rfl) ?_
      refine fg_put (C := RX2) (T := TX2) (N := 8) (ci := 3) (g := 5) (i := 2) hx hb hown hts hX hC in_X2 tyX2 tyX2_ok nmX2 rfl (cin rfl) rfl 7 (by decide) q296 (fun _ h => h) rfl rfl rfl (Nat.le_of_ble_eq_true rfl) (cct G (pg d kp as un to (rd sc L 121 b 1 x1) fd tp sh) sp) cs_rd dX2_digits_64 (fun H locs hC => ?_)
      refine lv_aload_n hx hb dX2_digits_67 rfl (lv_at hl 1 rfl) ?_
      refine lv_iload_n hx hb dX2_digits_68 rfl (lv_at hl 0 rfl) ?_
      refine lv_sipush (v := 999) hx hb dX2_digits_69 rfl ?_
      refine lv_icmp_gt (tgt := 79) hx hb dX2_digits_72 (by decide) (fun z_5 => absurd z_5 (by have hv := hv; rw [hq] at hv; exact hv)) (fun _ => ?_)
      refine lv_iconst (v := 1) hx hb dX2_digits_75 rfl ?_
      refine lv_goto (tgt := 80) hx hb dX2_digits_76 (by decide) ?_
      refine fc_V (As := [.int 1]) (rest := []) hx hb hml hown hts hX hC (m_X2_need_1) (lw_V q1132 q1134 qs40 q113 q1135) hdV_X2_need ⟨rfl, rfl⟩ ⟨Nat.le_of_ble_eq_true rfl, Nat.le_of_ble_eq_true rfl⟩ (fx_recv (g := 5) (i := 2) (ci := 3) (q := (RX2, TX2, 8)) hX hC (cin rfl) rfl rfl) hl.1 rfl (Nat.le_of_ble_eq_true rfl) ⟨Nat.zero_le _, Nat.zero_le _⟩ dX2_digits_80 (fun _ H locs hC => ?_)
      refine W.eq (g2 := F0 m 83 ls []) rfl ?_
      exact fr_v hx hb hr hlocks hX hC () rfl (congrArg (fun z => cct G (pg d kp as un to z fd tp sh) sp) (by rw [hq])) dX2_digits_83
    | succ k1 ih1 =>
      intro i1 hi1 x1 hJ1 H locs hC ls hl
      refine lv_aload_n hx hb dX2_digits_2 rfl (lv_at hl 1 rfl) ?_
      refine lv_aload_n hx hb dX2_digits_3 rfl (lv_at hl 1 rfl) ?_
      refine fg_get (C := RX2) (T := TX2) (N := 8) (ci := 3) (g := 5) (i := 2) (v := .int (nI i1)) hx hb hown hts hX hC in_X2 rfl (cin rfl) rfl 4 (by decide) q292 (fun _ h => h) rfl dX2_digits_4 ?_
      refine fc_V (As := [.int (nI i1)]) (rest := []) hx hb hml hown hts hX hC (m_X2_byteAt (sc := sc) (L := L) (a := i1) (b := b) (t := t) (v := v) hL i1 (by omega)) (lw_V q1075 q1077 qs37 q113 q1078) hdV_X2_byteAt ⟨rfl, rfl⟩ ⟨Nat.le_of_ble_eq_true rfl, Nat.le_of_ble_eq_true rfl⟩ (fx_recv (g := 5) (i := 2) (ci := 3) (q := (RX2, TX2, 8)) hX hC (cin rfl) rfl rfl) hl.1 rfl (Nat.le_of_ble_eq_true rfl) ⟨Nat.zero_le _, Nat.zero_le _⟩ dX2_digits_7 (fun _ H locs hC => ?_)
      refine W.eq (g2 := F0 m 10 ls [.int (p_byte tp L i1)]) rfl ?_
      refine fc_S (As := [.int (p_byte tp L i1)]) (rest := []) hx hb hml hown hts hX hC (m_X2_isDigit (p_byte tp L i1)) (lw_S q1136 q1137 q113 q1138) hdS_X2_isDigit ⟨rfl, rfl⟩ ⟨Nat.le_of_ble_eq_true rfl, Nat.le_of_ble_eq_true rfl⟩ hl.1 rfl (Nat.le_of_ble_eq_true rfl) ⟨Nat.zero_le _, Nat.zero_le _⟩ dX2_digits_10 (fun _ H locs hC => ?_)
      refine W.eq (g2 := F0 m 13 ls [.int (b2i (isDg (p_byte tp L i1)))]) rfl ?_
      refine fb_eq (tgt := 57) hx hb dX2_digits_13 (by decide) (fun c_9 => ?_) (fun c_9 => ?_)
      · have hq : p_dig tp L (121 - a) a 0 = (i1, x1) := hJ1.trans (dig_f c_9)
        refine lv_aload_n hx hb dX2_digits_57 rfl (lv_at hl 1 rfl) ?_
        refine lv_iconst (v := 1) hx hb dX2_digits_58 rfl ?_
        refine fg_put (C := RX2) (T := TX2) (N := 8) (ci := 3) (g := 5) (i := 2) hx hb hown hts hX hC in_X2 tyX2 tyX2_ok nmX2 rfl (cin rfl) rfl 6 (by decide) q295 (fun _ h => h) rfl rfl rfl (Nat.le_of_ble_eq_true rfl) (cct G (pg d kp as un to (rd sc L i1 b 1 v) fd tp sh) sp) cs_rd dX2_digits_59 (fun H locs hC => ?_)
        refine lv_aload_n hx hb dX2_digits_62 rfl (lv_at hl 1 rfl) ?_
        refine lv_iload_n hx hb dX2_digits_63 rfl (lv_at hl 0 rfl) ?_
        refine fg_put (C := RX2) (T := TX2) (N := 8) (ci := 3) (g := 5) (i := 2) hx hb hown hts hX hC in_X2 tyX2 tyX2_ok nmX2 rfl (cin rfl) rfl 7 (by decide) q296 (fun _ h => h) rfl rfl rfl (Nat.le_of_ble_eq_true rfl) (cct G (pg d kp as un to (rd sc L i1 b 1 x1) fd tp sh) sp) cs_rd dX2_digits_64 (fun H locs hC => ?_)
        refine lv_aload_n hx hb dX2_digits_67 rfl (lv_at hl 1 rfl) ?_
        refine lv_iload_n hx hb dX2_digits_68 rfl (lv_at hl 0 rfl) ?_
        refine lv_sipush (v := 999) hx hb dX2_digits_69 rfl ?_
        refine lv_icmp_gt (tgt := 79) hx hb dX2_digits_72 (by decide) (fun z_10 => absurd z_10 (by have hv := hv; rw [hq] at hv; exact hv)) (fun _ => ?_)
        refine lv_iconst (v := 1) hx hb dX2_digits_75 rfl ?_
        refine lv_goto (tgt := 80) hx hb dX2_digits_76 (by decide) ?_
        refine fc_V (As := [.int 1]) (rest := []) hx hb hml hown hts hX hC (m_X2_need_1) (lw_V q1132 q1134 qs40 q113 q1135) hdV_X2_need ⟨rfl, rfl⟩ ⟨Nat.le_of_ble_eq_true rfl, Nat.le_of_ble_eq_true rfl⟩ (fx_recv (g := 5) (i := 2) (ci := 3) (q := (RX2, TX2, 8)) hX hC (cin rfl) rfl rfl) hl.1 rfl (Nat.le_of_ble_eq_true rfl) ⟨Nat.zero_le _, Nat.zero_le _⟩ dX2_digits_80 (fun _ H locs hC => ?_)
        refine W.eq (g2 := F0 m 83 ls []) rfl ?_
        exact fr_v hx hb hr hlocks hX hC () rfl (congrArg (fun z => cct G (pg d kp as un to z fd tp sh) sp) (by rw [hq])) dX2_digits_83
      · refine lv_iload_n hx hb dX2_digits_16 rfl (lv_at hl 0 rfl) ?_
        refine lv_sipush (v := 999) hx hb dX2_digits_17 rfl ?_
        refine fj_le (tgt := 27) hx hb dX2_digits_20 (by decide) (fun c_12 => ?_) (fun c_12 => ?_)
        · refine lv_bipush (v := 10) hx hb dX2_digits_27 rfl ?_
          refine lv_iload_n hx hb dX2_digits_29 rfl (lv_at hl 0 rfl) ?_
          refine lv_imul hx hb dX2_digits_30 ?_
          refine lv_aload_n hx hb dX2_digits_31 rfl (lv_at hl 1 rfl) ?_
          refine lv_aload_n hx hb dX2_digits_32 rfl (lv_at hl 1 rfl) ?_
          refine fg_get (C := RX2) (T := TX2) (N := 8) (ci := 3) (g := 5) (i := 2) (v := .int (nI i1)) hx hb hown hts hX hC in_X2 rfl (cin rfl) rfl 4 (by decide) q292 (fun _ h => h) rfl dX2_digits_33 ?_
          refine fc_V (As := [.int (nI i1)]) (rest := [.int (10 * x1)]) hx hb hml hown hts hX hC (m_X2_byteAt (sc := sc) (L := L) (a := i1) (b := b) (t := t) (v := v) hL i1 (by omega)) (lw_V q1075 q1077 qs37 q113 q1078) hdV_X2_byteAt ⟨rfl, rfl⟩ ⟨Nat.le_of_ble_eq_true rfl, Nat.le_of_ble_eq_true rfl⟩ (fx_recv (g := 5) (i := 2) (ci := 3) (q := (RX2, TX2, 8)) hX hC (cin rfl) rfl rfl) hl.1 rfl (Nat.le_of_ble_eq_true rfl) ⟨Nat.zero_le _, Nat.zero_le _⟩ dX2_digits_36 (fun _ H locs hC => ?_)
          refine W.eq (g2 := F0 m 39 ls [.int (p_byte tp L i1), .int (10 * x1)]) rfl ?_
          refine lv_iadd hx hb dX2_digits_39 ?_
          refine lv_bipush (v := 48) hx hb dX2_digits_40 rfl ?_
          refine lv_isub hx hb dX2_digits_42 ?_
          refine lv_istore_n (lv' := [(1, .int (((10 * x1) + (p_byte tp L i1)) - 48)), (0, .ref (G.ad 5 2))]) hx hb dX2_digits_43 rfl hl (by decide) rfl (fun ls hl => ?_)
          refine lv_aload_n hx hb dX2_digits_44 rfl (lv_at hl 1 rfl) ?_
          refine lv_dup hx hb dX2_digits_45 rfl ?_
          refine fg_get (C := RX2) (T := TX2) (N := 8) (ci := 3) (g := 5) (i := 2) (v := .int (nI i1)) hx hb hown hts hX hC in_X2 rfl (cin rfl) rfl 4 (by decide) q292 (fun _ h => h) rfl dX2_digits_46 ?_
          refine lv_iconst (v := 1) hx hb dX2_digits_49 rfl ?_
          refine lv_iadd hx hb dX2_digits_50 ?_
          rw [nI_1]
          refine fg_put (C := RX2) (T := TX2) (N := 8) (ci := 3) (g := 5) (i := 2) hx hb hown hts hX hC in_X2 tyX2 tyX2_ok nmX2 rfl (cin rfl) rfl 4 (by decide) q292 (fun _ h => h) rfl rfl rfl (Nat.le_of_ble_eq_true rfl) (cct G (pg d kp as un to (rd sc L (i1 + 1) b t v) fd tp sh) sp) cs_rd dX2_digits_51 (fun H locs hC => ?_)
          refine lv_goto (tgt := 2) hx hb dX2_digits_54 (by decide) ?_
          have hcn := (dig_t (f := k1) (v := x1) c_9).trans (congrArg (fun z => p_dig tp L k1 (i1 + 1) z) (if_neg c_12))
          exact ih1 (i1 + 1) (by omega) _ (hJ1.trans hcn) _ _ hC ls (lv_sub hl [0, 1] rfl)
        · refine lv_iload_n hx hb dX2_digits_23 rfl (lv_at hl 0 rfl) ?_
          refine lv_goto (tgt := 43) hx hb dX2_digits_24 (by decide) ?_
          refine lv_istore_n (lv' := [(1, .int x1), (0, .ref (G.ad 5 2))]) hx hb dX2_digits_43 rfl hl (by decide) rfl (fun ls hl => ?_)
          refine lv_aload_n hx hb dX2_digits_44 rfl (lv_at hl 1 rfl) ?_
          refine lv_dup hx hb dX2_digits_45 rfl ?_
          refine fg_get (C := RX2) (T := TX2) (N := 8) (ci := 3) (g := 5) (i := 2) (v := .int (nI i1)) hx hb hown hts hX hC in_X2 rfl (cin rfl) rfl 4 (by decide) q292 (fun _ h => h) rfl dX2_digits_46 ?_
          refine lv_iconst (v := 1) hx hb dX2_digits_49 rfl ?_
          refine lv_iadd hx hb dX2_digits_50 ?_
          rw [nI_1]
          refine fg_put (C := RX2) (T := TX2) (N := 8) (ci := 3) (g := 5) (i := 2) hx hb hown hts hX hC in_X2 tyX2 tyX2_ok nmX2 rfl (cin rfl) rfl 4 (by decide) q292 (fun _ h => h) rfl rfl rfl (Nat.le_of_ble_eq_true rfl) (cct G (pg d kp as un to (rd sc L (i1 + 1) b t v) fd tp sh) sp) cs_rd dX2_digits_51 (fun H locs hC => ?_)
          refine lv_goto (tgt := 2) hx hb dX2_digits_54 (by decide) ?_
          have hcn := (dig_t (f := k1) (v := x1) c_9).trans (congrArg (fun z => p_dig tp L k1 (i1 + 1) z) (if_pos c_12))
          exact ih1 (i1 + 1) (by omega) _ (hJ1.trans hcn) _ _ hC ls (lv_sub hl [0, 1] rfl)
  exact L_1 (121 - a) a (by omega) _ rfl _ _ hC ls (lv_sub hl [0, 1] rfl)
set_option maxRecDepth 100000 in
theorem m_X2_digits_f {l : Launch} {G : Gc} {d kp as un to sc fd tp sh : Row} {sp : Nat → Option Nat} {L a b : Nat} {t v : Int32} (hL : L ≤ 120) (ha : a ≤ 120) (hv : 999 < (p_dig tp L (121 - a) a 0).2) : CmX l yX2_digits (ws_ yX2_digits cX2_digits 2 none) ({ frames := 2, cells := 0, slots := 0, locals := 42 }) (cF G) [.ref (G.ad 5 2)] (cct G (pg d kp as un to (rd sc L a b t v) fd tp sh) sp) (fun _ : Unit => .threw (G.ad 5 3)) (fun _ => cct G (pg d kp as un to (rd sc L ((p_dig tp L (121 - a) a 0).1) b 1 ((p_dig tp L (121 - a) a 0).2)) fd tp sh) sp) := by
  refine CmX.start (by decide) (Nat.le_of_ble_eq_true rfl) ?_
  intro p e s m below meth c hf hE hX hC ls hl
  obtain ⟨hx, hb, hr, hml, hown, hts, hlocks⟩ := hf
  have hl : lv_has ls 2 [(0, .ref (G.ad 5 2))] := hl
  have hown : s.vm.findClass "OwlEars$Reader" = some m.cls := hown
  refine lv_iconst (v := 0) hx hb dX2_digits_0 rfl ?_
  refine lv_istore_n (lv' := [(1, .int 0), (0, .ref (G.ad 5 2))]) hx hb dX2_digits_1 rfl hl (by decide) rfl (fun ls hl => ?_)
  have L_1 : ∀ (k1 i1 : Nat), i1 + k1 = 121 → ∀ x1 : Int32, p_dig tp L (121 - a) a 0 = p_dig tp L k1 i1 x1 → ∀ (H : Heap) (locs : List Loc), fC (cF G) (cct G (pg d kp as un to (rd sc L i1 b t v) fd tp sh) sp) s.heap H locs → ∀ ls : Array Slot, lv_has ls 2 [(1, .int x1), (0, .ref (G.ad 5 2))] → WGX p l e ({ frames := 2, cells := 0, slots := 0, locals := 42 }) s m (([.ref (G.ad 5 2)] : List Value).toArray) below meth c H locs (cF G) (fun _ : Unit => .threw (G.ad 5 3)) (fun _ => cct G (pg d kp as un to (rd sc L ((p_dig tp L (121 - a) a 0).1) b 1 ((p_dig tp L (121 - a) a 0).2)) fd tp sh) sp) (F0 m 2 ls []) := by
    intro k1
    induction k1 with
    | zero =>
      intro i1 hi1 x1 hJ1 H locs hC ls hl
      obtain rfl : i1 = 121 := by omega
      refine lv_aload_n hx hb dX2_digits_2 rfl (lv_at hl 1 rfl) ?_
      refine lv_aload_n hx hb dX2_digits_3 rfl (lv_at hl 1 rfl) ?_
      refine fg_get (C := RX2) (T := TX2) (N := 8) (ci := 3) (g := 5) (i := 2) (v := .int (nI 121)) hx hb hown hts hX hC in_X2 rfl (cin rfl) rfl 4 (by decide) q292 (fun _ h => h) rfl dX2_digits_4 ?_
      refine fc_V (As := [.int (nI 121)]) (rest := []) hx hb hml hown hts hX hC (m_X2_byteAt (sc := sc) (L := L) (a := 121) (b := b) (t := t) (v := v) hL 121 (by omega)) (lw_V q1075 q1077 qs37 q113 q1078) hdV_X2_byteAt ⟨rfl, rfl⟩ ⟨Nat.le_of_ble_eq_true rfl, Nat.le_of_ble_eq_true rfl⟩ (fx_recv (g := 5) (i := 2) (ci := 3) (q := (RX2, TX2, 8)) hX hC (cin rfl) rfl rfl) hl.1 rfl (Nat.le_of_ble_eq_true rfl) ⟨Nat.zero_le _, Nat.zero_le _⟩ dX2_digits_7 (fun _ H locs hC => ?_)
      refine W.eq (g2 := F0 m 10 ls [.int (p_byte tp L 121)]) rfl ?_
      refine fc_S (As := [.int (p_byte tp L 121)]) (rest := []) hx hb hml hown hts hX hC (m_X2_isDigit (p_byte tp L 121)) (lw_S q1136 q1137 q113 q1138) hdS_X2_isDigit ⟨rfl, rfl⟩ ⟨Nat.le_of_ble_eq_true rfl, Nat.le_of_ble_eq_true rfl⟩ hl.1 rfl (Nat.le_of_ble_eq_true rfl) ⟨Nat.zero_le _, Nat.zero_le _⟩ dX2_digits_10 (fun _ H locs hC => ?_)
      refine W.eq (g2 := F0 m 13 ls [.int (b2i (isDg (p_byte tp L 121)))]) rfl ?_
      refine fb_eq (tgt := 57) hx hb dX2_digits_13 (by decide) (fun _ => ?_) (fun z_4 => absurd z_4 (by rw [byte_out (by omega)]; decide))
      have hq : p_dig tp L (121 - a) a 0 = (121, x1) := hJ1
      refine lv_aload_n hx hb dX2_digits_57 rfl (lv_at hl 1 rfl) ?_
      refine lv_iconst (v := 1) hx hb dX2_digits_58 rfl ?_
      refine fg_put (C := RX2) (T := TX2) (N := 8) (ci := 3) (g := 5) (i := 2) hx hb hown hts hX hC in_X2 tyX2 tyX2_ok nmX2 rfl (cin rfl) rfl 6 (by decide) q295 (fun _ h => h) rfl rfl rfl (Nat.le_of_ble_eq_true rfl) (cct G (pg d kp as un to (rd sc L 121 b 1 v) fd tp sh) sp) cs_rd dX2_digits_59 (fun H locs hC => ?_)
      refine lv_aload_n hx hb dX2_digits_62 rfl (lv_at hl 1 rfl) ?_
      refine lv_iload_n hx hb dX2_digits_63 rfl (lv_at hl 0 rfl) ?_
      refine fg_put (C := RX2) (T := TX2) (N := 8) (ci := 3) (g := 5) (i := 2) hx hb hown hts hX hC in_X2 tyX2 tyX2_ok nmX2 rfl (cin rfl) rfl 7 (by decide) q296 (fun _ h => h) rfl rfl rfl (Nat.le_of_ble_eq_true rfl) (cct G (pg d kp as un to (rd sc L 121 b 1 x1) fd tp sh) sp) cs_rd dX2_digits_64 (fun H locs hC => ?_)
      refine lv_aload_n hx hb dX2_digits_67 rfl (lv_at hl 1 rfl) ?_
      refine lv_iload_n hx hb dX2_digits_68 rfl (lv_at hl 0 rfl) ?_
      refine lv_sipush (v := 999) hx hb dX2_digits_69 rfl ?_
      refine lv_icmp_gt (tgt := 79) hx hb dX2_digits_72 (by decide) (fun _ => ?_) (fun z_5 => absurd (by have hv := hv; rw [hq] at hv; exact hv) z_5)
      refine lv_iconst (v := 0) hx hb dX2_digits_79 rfl ?_
      refine fc_VT (As := [.int 0]) (rest := []) hx hb hml hown hts hX hC (m_X2_need_0) (lw_V q1132 q1134 qs40 q113 q1135) hdV_X2_need ⟨rfl, rfl⟩ ⟨Nat.le_of_ble_eq_true rfl, Nat.le_of_ble_eq_true rfl⟩ (fx_recv (g := 5) (i := 2) (ci := 3) (q := (RX2, TX2, 8)) hX hC (cin rfl) rfl rfl) hl.1 rfl (Nat.le_of_ble_eq_true rfl) ⟨Nat.zero_le _, Nat.zero_le _⟩ dX2_digits_80 (fun _ H locs hC => ?_)
      exact fx_out hlocks hX hC hE rfl () rfl (by rw [hq])
    | succ k1 ih1 =>
      intro i1 hi1 x1 hJ1 H locs hC ls hl
      refine lv_aload_n hx hb dX2_digits_2 rfl (lv_at hl 1 rfl) ?_
      refine lv_aload_n hx hb dX2_digits_3 rfl (lv_at hl 1 rfl) ?_
      refine fg_get (C := RX2) (T := TX2) (N := 8) (ci := 3) (g := 5) (i := 2) (v := .int (nI i1)) hx hb hown hts hX hC in_X2 rfl (cin rfl) rfl 4 (by decide) q292 (fun _ h => h) rfl dX2_digits_4 ?_
      refine fc_V (As := [.int (nI i1)]) (rest := []) hx hb hml hown hts hX hC (m_X2_byteAt (sc := sc) (L := L) (a := i1) (b := b) (t := t) (v := v) hL i1 (by omega)) (lw_V q1075 q1077 qs37 q113 q1078) hdV_X2_byteAt ⟨rfl, rfl⟩ ⟨Nat.le_of_ble_eq_true rfl, Nat.le_of_ble_eq_true rfl⟩ (fx_recv (g := 5) (i := 2) (ci := 3) (q := (RX2, TX2, 8)) hX hC (cin rfl) rfl rfl) hl.1 rfl (Nat.le_of_ble_eq_true rfl) ⟨Nat.zero_le _, Nat.zero_le _⟩ dX2_digits_7 (fun _ H locs hC => ?_)
      refine W.eq (g2 := F0 m 10 ls [.int (p_byte tp L i1)]) rfl ?_
      refine fc_S (As := [.int (p_byte tp L i1)]) (rest := []) hx hb hml hown hts hX hC (m_X2_isDigit (p_byte tp L i1)) (lw_S q1136 q1137 q113 q1138) hdS_X2_isDigit ⟨rfl, rfl⟩ ⟨Nat.le_of_ble_eq_true rfl, Nat.le_of_ble_eq_true rfl⟩ hl.1 rfl (Nat.le_of_ble_eq_true rfl) ⟨Nat.zero_le _, Nat.zero_le _⟩ dX2_digits_10 (fun _ H locs hC => ?_)
      refine W.eq (g2 := F0 m 13 ls [.int (b2i (isDg (p_byte tp L i1)))]) rfl ?_
      refine fb_eq (tgt := 57) hx hb dX2_digits_13 (by decide) (fun c_9 => ?_) (fun c_9 => ?_)
      · have hq : p_dig tp L (121 - a) a 0 = (i1, x1) := hJ1.trans (dig_f c_9)
        refine lv_aload_n hx hb dX2_digits_57 rfl (lv_at hl 1 rfl) ?_
        refine lv_iconst (v := 1) hx hb dX2_digits_58 rfl ?_
        refine fg_put (C := RX2) (T := TX2) (N := 8) (ci := 3) (g := 5) (i := 2) hx hb hown hts hX hC in_X2 tyX2 tyX2_ok nmX2 rfl (cin rfl) rfl 6 (by decide) q295 (fun _ h => h) rfl rfl rfl (Nat.le_of_ble_eq_true rfl) (cct G (pg d kp as un to (rd sc L i1 b 1 v) fd tp sh) sp) cs_rd dX2_digits_59 (fun H locs hC => ?_)
        refine lv_aload_n hx hb dX2_digits_62 rfl (lv_at hl 1 rfl) ?_
        refine lv_iload_n hx hb dX2_digits_63 rfl (lv_at hl 0 rfl) ?_
        refine fg_put (C := RX2) (T := TX2) (N := 8) (ci := 3) (g := 5) (i := 2) hx hb hown hts hX hC in_X2 tyX2 tyX2_ok nmX2 rfl (cin rfl) rfl 7 (by decide) q296 (fun _ h => h) rfl rfl rfl (Nat.le_of_ble_eq_true rfl) (cct G (pg d kp as un to (rd sc L i1 b 1 x1) fd tp sh) sp) cs_rd dX2_digits_64 (fun H locs hC => ?_)
        refine lv_aload_n hx hb dX2_digits_67 rfl (lv_at hl 1 rfl) ?_
        refine lv_iload_n hx hb dX2_digits_68 rfl (lv_at hl 0 rfl) ?_
        refine lv_sipush (v := 999) hx hb dX2_digits_69 rfl ?_
        refine lv_icmp_gt (tgt := 79) hx hb dX2_digits_72 (by decide) (fun _ => ?_) (fun z_10 => absurd (by have hv := hv; rw [hq] at hv; exact hv) z_10)
        refine lv_iconst (v := 0) hx hb dX2_digits_79 rfl ?_
        refine fc_VT (As := [.int 0]) (rest := []) hx hb hml hown hts hX hC (m_X2_need_0) (lw_V q1132 q1134 qs40 q113 q1135) hdV_X2_need ⟨rfl, rfl⟩ ⟨Nat.le_of_ble_eq_true rfl, Nat.le_of_ble_eq_true rfl⟩ (fx_recv (g := 5) (i := 2) (ci := 3) (q := (RX2, TX2, 8)) hX hC (cin rfl) rfl rfl) hl.1 rfl (Nat.le_of_ble_eq_true rfl) ⟨Nat.zero_le _, Nat.zero_le _⟩ dX2_digits_80 (fun _ H locs hC => ?_)
        exact fx_out hlocks hX hC hE rfl () rfl (by rw [hq])
      · refine lv_iload_n hx hb dX2_digits_16 rfl (lv_at hl 0 rfl) ?_
        refine lv_sipush (v := 999) hx hb dX2_digits_17 rfl ?_
        refine fj_le (tgt := 27) hx hb dX2_digits_20 (by decide) (fun c_12 => ?_) (fun c_12 => ?_)
        · refine lv_bipush (v := 10) hx hb dX2_digits_27 rfl ?_
          refine lv_iload_n hx hb dX2_digits_29 rfl (lv_at hl 0 rfl) ?_
          refine lv_imul hx hb dX2_digits_30 ?_
          refine lv_aload_n hx hb dX2_digits_31 rfl (lv_at hl 1 rfl) ?_
          refine lv_aload_n hx hb dX2_digits_32 rfl (lv_at hl 1 rfl) ?_
          refine fg_get (C := RX2) (T := TX2) (N := 8) (ci := 3) (g := 5) (i := 2) (v := .int (nI i1)) hx hb hown hts hX hC in_X2 rfl (cin rfl) rfl 4 (by decide) q292 (fun _ h => h) rfl dX2_digits_33 ?_
          refine fc_V (As := [.int (nI i1)]) (rest := [.int (10 * x1)]) hx hb hml hown hts hX hC (m_X2_byteAt (sc := sc) (L := L) (a := i1) (b := b) (t := t) (v := v) hL i1 (by omega)) (lw_V q1075 q1077 qs37 q113 q1078) hdV_X2_byteAt ⟨rfl, rfl⟩ ⟨Nat.le_of_ble_eq_true rfl, Nat.le_of_ble_eq_true rfl⟩ (fx_recv (g := 5) (i := 2) (ci := 3) (q := (RX2, TX2, 8)) hX hC (cin rfl) rfl rfl) hl.1 rfl (Nat.le_of_ble_eq_true rfl) ⟨Nat.zero_le _, Nat.zero_le _⟩ dX2_digits_36 (fun _ H locs hC => ?_)
          refine W.eq (g2 := F0 m 39 ls [.int (p_byte tp L i1), .int (10 * x1)]) rfl ?_
          refine lv_iadd hx hb dX2_digits_39 ?_
          refine lv_bipush (v := 48) hx hb dX2_digits_40 rfl ?_
          refine lv_isub hx hb dX2_digits_42 ?_
          refine lv_istore_n (lv' := [(1, .int (((10 * x1) + (p_byte tp L i1)) - 48)), (0, .ref (G.ad 5 2))]) hx hb dX2_digits_43 rfl hl (by decide) rfl (fun ls hl => ?_)
          refine lv_aload_n hx hb dX2_digits_44 rfl (lv_at hl 1 rfl) ?_
          refine lv_dup hx hb dX2_digits_45 rfl ?_
          refine fg_get (C := RX2) (T := TX2) (N := 8) (ci := 3) (g := 5) (i := 2) (v := .int (nI i1)) hx hb hown hts hX hC in_X2 rfl (cin rfl) rfl 4 (by decide) q292 (fun _ h => h) rfl dX2_digits_46 ?_
          refine lv_iconst (v := 1) hx hb dX2_digits_49 rfl ?_
          refine lv_iadd hx hb dX2_digits_50 ?_
          rw [nI_1]
          refine fg_put (C := RX2) (T := TX2) (N := 8) (ci := 3) (g := 5) (i := 2) hx hb hown hts hX hC in_X2 tyX2 tyX2_ok nmX2 rfl (cin rfl) rfl 4 (by decide) q292 (fun _ h => h) rfl rfl rfl (Nat.le_of_ble_eq_true rfl) (cct G (pg d kp as un to (rd sc L (i1 + 1) b t v) fd tp sh) sp) cs_rd dX2_digits_51 (fun H locs hC => ?_)
          refine lv_goto (tgt := 2) hx hb dX2_digits_54 (by decide) ?_
          have hcn := (dig_t (f := k1) (v := x1) c_9).trans (congrArg (fun z => p_dig tp L k1 (i1 + 1) z) (if_neg c_12))
          exact ih1 (i1 + 1) (by omega) _ (hJ1.trans hcn) _ _ hC ls (lv_sub hl [0, 1] rfl)
        · refine lv_iload_n hx hb dX2_digits_23 rfl (lv_at hl 0 rfl) ?_
          refine lv_goto (tgt := 43) hx hb dX2_digits_24 (by decide) ?_
          refine lv_istore_n (lv' := [(1, .int x1), (0, .ref (G.ad 5 2))]) hx hb dX2_digits_43 rfl hl (by decide) rfl (fun ls hl => ?_)
          refine lv_aload_n hx hb dX2_digits_44 rfl (lv_at hl 1 rfl) ?_
          refine lv_dup hx hb dX2_digits_45 rfl ?_
          refine fg_get (C := RX2) (T := TX2) (N := 8) (ci := 3) (g := 5) (i := 2) (v := .int (nI i1)) hx hb hown hts hX hC in_X2 rfl (cin rfl) rfl 4 (by decide) q292 (fun _ h => h) rfl dX2_digits_46 ?_
          refine lv_iconst (v := 1) hx hb dX2_digits_49 rfl ?_
          refine lv_iadd hx hb dX2_digits_50 ?_
          rw [nI_1]
          refine fg_put (C := RX2) (T := TX2) (N := 8) (ci := 3) (g := 5) (i := 2) hx hb hown hts hX hC in_X2 tyX2 tyX2_ok nmX2 rfl (cin rfl) rfl 4 (by decide) q292 (fun _ h => h) rfl rfl rfl (Nat.le_of_ble_eq_true rfl) (cct G (pg d kp as un to (rd sc L (i1 + 1) b t v) fd tp sh) sp) cs_rd dX2_digits_51 (fun H locs hC => ?_)
          refine lv_goto (tgt := 2) hx hb dX2_digits_54 (by decide) ?_
          have hcn := (dig_t (f := k1) (v := x1) c_9).trans (congrArg (fun z => p_dig tp L k1 (i1 + 1) z) (if_pos c_12))
          exact ih1 (i1 + 1) (by omega) _ (hJ1.trans hcn) _ _ hC ls (lv_sub hl [0, 1] rfl)
  exact L_1 (121 - a) a (by omega) _ rfl _ _ hC ls (lv_sub hl [0, 1] rfl)
