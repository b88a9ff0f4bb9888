theorem hdV_X2_behind : yX2_behind.cls = RX2 ∧ yX2_behind.cls ≠ "java/lang/invoke/MethodHandle" ∧ yX2_behind.cls ≠ "java/lang/invoke/VarHandle" ∧ (parseMethodDescriptor yX2_behind.desc).map (fun d => d.parameters.length) = some 2 := by decide +kernel
def c_row (tp : Row) (L base : Nat) (most : Int32) (a : Nat) (t v : Int32) (to : Row) : (Nat × Nat × Int32 × Int32) × Bool × Row :=
  if (c_beh tp L 0 35 a t v).2.1 = true then
    (if (c_num tp L 0 most (c_beh tp L 0 35 a t v).1.1 (c_beh tp L 0 35 a t v).1.2.1 (c_beh tp L 0 35 a t v).1.2.2.1 (c_beh tp L 0 35 a t v).1.2.2.2).2 = true then
      ((c_num tp L 0 most (c_beh tp L 0 35 a t v).1.1 (c_beh tp L 0 35 a t v).1.2.1 (c_beh tp L 0 35 a t v).1.2.2.1 (c_beh tp L 0 35 a t v).1.2.2.2).1, true, upd to (base + ix (c_beh tp L 0 35 a t v).2.2) (c_beh tp L 0 35 a t v).1.2.2.2)
    else ((c_num tp L 0 most (c_beh tp L 0 35 a t v).1.1 (c_beh tp L 0 35 a t v).1.2.1 (c_beh tp L 0 35 a t v).1.2.2.1 (c_beh tp L 0 35 a t v).1.2.2.2).1, false, to))
  else ((c_beh tp L 0 35 a t v).1, false, to)
theorem row_f {tp to : Row} {L base a a2 b2 : Nat} {most t v t2 v2 x : Int32} (hn : c_beh tp L 0 35 a t v = ((a2, b2, t2, v2), false, x)) : c_row tp L base most a t v to = ((a2, b2, t2, v2), false, to) := by
  unfold c_row
  rw [hn, if_neg (show ¬ (false = true) by decide)]
theorem row_tf {tp to : Row} {L base a a2 b2 a3 b3 : Nat} {most t v t2 v2 x t3 v3 : Int32} (hn : c_beh tp L 0 35 a t v = ((a2, b2, t2, v2), true, x)) (hm : c_num tp L 0 most a2 b2 t2 v2 = ((a3, b3, t3, v3), false)) : c_row tp L base most a t v to = ((a3, b3, t3, v3), false, to) := by
  unfold c_row
  rw [hn, if_pos (show true = true from rfl)]
  show (if (c_num tp L 0 most a2 b2 t2 v2).2 = true then _ else _) = _
  rw [hm, if_neg (show ¬ (false = true) by decide)]
theorem row_tt {tp to : Row} {L base a a2 b2 a3 b3 : Nat} {most t v t2 v2 x t3 v3 : Int32} (hn : c_beh tp L 0 35 a t v = ((a2, b2, t2, v2), true, x)) (hm : c_num tp L 0 most a2 b2 t2 v2 = ((a3, b3, t3, v3), true)) : c_row tp L base most a t v to = ((a3, b3, t3, v3), true, upd to (base + ix x) v2) := by
  unfold c_row
  rw [hn, if_pos (show true = true from rfl)]
  show (if (c_num tp L 0 most a2 b2 t2 v2).2 = true then _ else _) = _
  rw [hm, if_pos (show true = true from rfl)]
set_option maxRecDepth 100000 in
theorem m_X2_row_1T {l : Launch} {G : Gc} {d kp as un to sc fd tp sh : Row} {sp : Nat → Option Nat} {L a b : Nat} {t v : Int32} (hL : L ≤ 120) (ha : a ≤ L) {a1 b1 : Nat} {t1 v1 : Int32} {to1 : Row} (most : Int32) (hq : c_row tp L 20 most a t v to = ((a1, b1, t1, v1), true, to1)) : Cm l yX2_row (ws_ yX2_row cX2_row 4 none) ({ frames := 9, cells := 0, slots := 0, locals := 196 }) (cF G) [.ref (G.ad 5 2), .ref (G.ad 4 1), .int most] (cct G (pg d kp as un to (rd sc L a b t v) fd tp sh) sp) (fun _ : Unit => none) (fun _ => cct G (pg d kp as un to1 (rd sc L a1 b1 t1 v1) fd tp sh) sp) := by
  refine Cm.start (by decide) (Nat.le_of_ble_eq_true rfl) ?_
  intro p e s m below meth c hf hX hC ls hl
  obtain ⟨hx, hb, hr, hml, hown, hts, hlocks⟩ := hf
  have hl : lv_has ls 4 [(0, .ref (G.ad 5 2)), (1, .ref (G.ad 4 1)), (2, .int most)] := hl
  have hown : s.vm.findClass "OwlEars$Reader" = some m.cls := hown
  rcases hn : c_beh tp L 0 35 a t v with ⟨⟨a2, b2, t2, v2⟩, ok2, x⟩
  cases ok2
  · rw [row_f hn] at hq
    exact absurd (show false = true from congrArg (fun z => z.2.1) hq) (by decide)
  · rcases hm : c_num tp L 0 most a2 b2 t2 v2 with ⟨⟨a3, b3, t3, v3⟩, ok3⟩
    cases ok3
    · rw [row_tf hn hm] at hq
      exact absurd (show false = true from congrArg (fun z => z.2.1) hq) (by decide)
    · rw [row_tt hn hm] at hq
      have h1 : a3 = a1 := congrArg (fun z => z.1.1) hq
      have h2 : b3 = b1 := congrArg (fun z => z.1.2.1) hq
      have h3 : t3 = t1 := congrArg (fun z => z.1.2.2.1) hq
      have h4 : v3 = v1 := congrArg (fun z => z.1.2.2.2) hq
      have h5 : (upd to (20 + ix x) v2) = to1 := congrArg (fun z => z.2.2) hq
      refine lv_aload_n hx hb dX2_row_0 rfl (lv_at hl 0 rfl) ?_
      refine lv_iconst (v := 0) hx hb dX2_row_1 rfl ?_
      refine lv_bipush (v := 35) hx hb dX2_row_2 rfl ?_
      refine fc_V (As := [.int 0, .int 35]) (rest := []) hx hb hml hown hts hX hC (m_X2_behind_T (sc := sc) (L := L) (a := a) (b := b) (t := t) (v := v) hL ha 0 35 x hn) (lw_V q1151 q1153 qs44 q113 q1154) hdV_X2_behind ⟨rfl, rfl⟩ ⟨Nat.le_of_ble_eq_true rfl, Nat.le_of_ble_eq_true rfl⟩ (fx_recv (g := 5) (i := 2) (ci := 3) (q := (RX2, TX2, 8)) hX hC (cin rfl) rfl rfl) hl.1 rfl (Nat.le_of_ble_eq_true rfl) ⟨Nat.zero_le _, Nat.zero_le _⟩ dX2_row_4 (fun _ H locs hC => ?_)
      refine W.eq (g2 := F0 m 7 ls [.int x]) rfl ?_
      refine lv_istore_n (lv' := [(3, .int x), (0, .ref (G.ad 5 2)), (1, .ref (G.ad 4 1)), (2, .int most)]) hx hb dX2_row_7 rfl hl (by decide) rfl (fun ls hl => ?_)
      refine lv_aload_n hx hb dX2_row_8 rfl (lv_at hl 2 rfl) ?_
      refine lv_iload_n hx hb dX2_row_9 rfl (lv_at hl 0 rfl) ?_
      refine lv_aload_n hx hb dX2_row_10 rfl (lv_at hl 1 rfl) ?_
      refine lv_iconst (v := 0) hx hb dX2_row_11 rfl ?_
      refine lv_iload_n hx hb dX2_row_12 rfl (lv_at hl 3 rfl) ?_
      refine fc_V (As := [.int 0, .int most]) (rest := [.int x, .ref (G.ad 4 1)]) hx hb hml hown hts hX hC (m_X2_number_T (sc := sc) (L := L) (a := a2) (b := b2) (t := t2) (v := v2) hL (beh_L ha hn).1 0 most hm) (lw_V q1155 q1157 qs45 q113 q1158) hdV_X2_number ⟨rfl, rfl⟩ ⟨Nat.le_of_ble_eq_true rfl, Nat.le_of_ble_eq_true rfl⟩ (fx_recv (g := 5) (i := 2) (ci := 3) (q := (RX2, TX2, 8)) hX hC (cin rfl) rfl rfl) hl.1 rfl (Nat.le_of_ble_eq_true rfl) ⟨Nat.zero_le _, Nat.zero_le _⟩ dX2_row_13 (fun _ H locs hC => ?_)
      refine W.eq (g2 := F0 m 16 ls [.int v2, .int x, .ref (G.ad 4 1)]) rfl ?_
      refine fg_iast (g := 4) (i := 1) (t0 := 0) hx hb hX hC (cin rfl) rfl rfl (vin_of (beh_in hn) 36 (by decide)) (cct G (pg d kp as un (upd to (20 + ix x) v2) (rd sc L a3 b3 t3 v3) fd tp sh) sp) (cs4_snow (k := ix x) (vin_lt (vin_of (beh_in hn) 36 (by decide)))) dX2_row_16 (fun H locs hC => ?_)
      exact fr_v hx hb hr hlocks hX hC () rfl ((congrArg (fun z => cct G (pg d kp as un z (rd sc L a3 b3 t3 v3) fd tp sh) sp) (h5)).trans (congrArg (fun z => cct G (pg d kp as un to1 z fd tp sh) sp) (by rw [h1, h2, h3, h4]))) dX2_row_17
set_option maxRecDepth 100000 in
theorem m_X2_row_1F {l : Launch} {G : Gc} {d kp as un to sc fd tp sh : Row} {sp : Nat → Option Nat} {L a b : Nat} {t v : Int32} (hL : L ≤ 120) (ha : a ≤ L) {a1 b1 : Nat} {t1 v1 : Int32} {to1 : Row} (most : Int32) (hq : c_row tp L 20 most a t v to = ((a1, b1, t1, v1), false, to1)) : CmX l yX2_row (ws_ yX2_row cX2_row 4 none) ({ frames := 9, cells := 0, slots := 0, locals := 196 }) (cF G) [.ref (G.ad 5 2), .ref (G.ad 4 1), .int most] (cct G (pg d kp as un to (rd sc L a b t v) fd tp sh) sp) (fun _ : Unit => .threw (G.ad 5 3)) (fun _ => cct G (pg d kp as un to1 (rd sc L a1 b1 t1 v1) fd tp sh) sp) := by
  refine CmX.start (by decide) (Nat.le_of_ble_eq_true rfl) ?_
  intro p e s m below meth c hf hE hX hC ls hl
  obtain ⟨hx, hb, hr, hml, hown, hts, hlocks⟩ := hf
  have hl : lv_has ls 4 [(0, .ref (G.ad 5 2)), (1, .ref (G.ad 4 1)), (2, .int most)] := hl
  have hown : s.vm.findClass "OwlEars$Reader" = some m.cls := hown
  rcases hn : c_beh tp L 0 35 a t v with ⟨⟨a2, b2, t2, v2⟩, ok2, x⟩
  cases ok2
  · rw [row_f hn] at hq
    have h1 : a2 = a1 := congrArg (fun z => z.1.1) hq
    have h2 : b2 = b1 := congrArg (fun z => z.1.2.1) hq
    have h3 : t2 = t1 := congrArg (fun z => z.1.2.2.1) hq
    have h4 : v2 = v1 := congrArg (fun z => z.1.2.2.2) hq
    have h5 : to = to1 := congrArg (fun z => z.2.2) hq
    refine lv_aload_n hx hb dX2_row_0 rfl (lv_at hl 0 rfl) ?_
    refine lv_iconst (v := 0) hx hb dX2_row_1 rfl ?_
    refine lv_bipush (v := 35) hx hb dX2_row_2 rfl ?_
    refine fc_VT (As := [.int 0, .int 35]) (rest := []) hx hb hml hown hts hX hC (m_X2_behind_F (sc := sc) (L := L) (a := a) (b := b) (t := t) (v := v) hL ha 0 35 x hn) (lw_V q1151 q1153 qs44 q113 q1154) hdV_X2_behind ⟨rfl, rfl⟩ ⟨Nat.le_of_ble_eq_true rfl, Nat.le_of_ble_eq_true rfl⟩ (fx_recv (g := 5) (i := 2) (ci := 3) (q := (RX2, TX2, 8)) hX hC (cin rfl) rfl rfl) hl.1 rfl (Nat.le_of_ble_eq_true rfl) ⟨Nat.zero_le _, Nat.zero_le _⟩ dX2_row_4 (fun _ H locs hC => ?_)
    exact fx_out hlocks hX hC hE rfl () rfl (by rw [h1, h2, h3, h4, h5])
  · rcases hm : c_num tp L 0 most a2 b2 t2 v2 with ⟨⟨a3, b3, t3, v3⟩, ok3⟩
    cases ok3
    · rw [row_tf hn hm] at hq
      have h1 : a3 = a1 := congrArg (fun z => z.1.1) hq
      have h2 : b3 = b1 := congrArg (fun z => z.1.2.1) hq
      have h3 : t3 = t1 := congrArg (fun z => z.1.2.2.1) hq
      have h4 : v3 = v1 := congrArg (fun z => z.1.2.2.2) hq
      have h5 : to = to1 := congrArg (fun z => z.2.2) hq
      refine lv_aload_n hx hb dX2_row_0 rfl (lv_at hl 0 rfl) ?_
      refine lv_iconst (v := 0) hx hb dX2_row_1 rfl ?_
      refine lv_bipush (v := 35) hx hb dX2_row_2 rfl ?_
      refine fc_V (As := [.int 0, .int 35]) (rest := []) hx hb hml hown hts hX hC (m_X2_behind_T (sc := sc) (L := L) (a := a) (b := b) (t := t) (v := v) hL ha 0 35 x hn) (lw_V q1151 q1153 qs44 q113 q1154) hdV_X2_behind ⟨rfl, rfl⟩ ⟨Nat.le_of_ble_eq_true rfl, Nat.le_of_ble_eq_true rfl⟩ (fx_recv (g := 5) (i := 2) (ci := 3) (q := (RX2, TX2, 8)) hX hC (cin rfl) rfl rfl) hl.1 rfl (Nat.le_of_ble_eq_true rfl) ⟨Nat.zero_le _, Nat.zero_le _⟩ dX2_row_4 (fun _ H locs hC => ?_)
      refine W.eq (g2 := F0 m 7 ls [.int x]) rfl ?_
      refine lv_istore_n (lv' := [(3, .int x), (0, .ref (G.ad 5 2)), (1, .ref (G.ad 4 1)), (2, .int most)]) hx hb dX2_row_7 rfl hl (by decide) rfl (fun ls hl => ?_)
      refine lv_aload_n hx hb dX2_row_8 rfl (lv_at hl 2 rfl) ?_
      refine lv_iload_n hx hb dX2_row_9 rfl (lv_at hl 0 rfl) ?_
      refine lv_aload_n hx hb dX2_row_10 rfl (lv_at hl 1 rfl) ?_
      refine lv_iconst (v := 0) hx hb dX2_row_11 rfl ?_
      refine lv_iload_n hx hb dX2_row_12 rfl (lv_at hl 3 rfl) ?_
      refine fc_VT (As := [.int 0, .int most]) (rest := [.int x, .ref (G.ad 4 1)]) hx hb hml hown hts hX hC (m_X2_number_F (sc := sc) (L := L) (a := a2) (b := b2) (t := t2) (v := v2) hL (beh_L ha hn).1 0 most hm) (lw_V q1155 q1157 qs45 q113 q1158) hdV_X2_number ⟨rfl, rfl⟩ ⟨Nat.le_of_ble_eq_true rfl, Nat.le_of_ble_eq_true rfl⟩ (fx_recv (g := 5) (i := 2) (ci := 3) (q := (RX2, TX2, 8)) hX hC (cin rfl) rfl rfl) hl.1 rfl (Nat.le_of_ble_eq_true rfl) ⟨Nat.zero_le _, Nat.zero_le _⟩ dX2_row_13 (fun _ H locs hC => ?_)
      exact fx_out hlocks hX hC hE rfl () rfl (by rw [h1, h2, h3, h4, h5])
    · rw [row_tt hn hm] at hq
      exact absurd (show true = false from congrArg (fun z => z.2.1) hq) (by decide)
set_option maxRecDepth 100000 in
theorem m_X2_row_2T {l : Launch} {G : Gc} {d kp as un to sc fd tp sh : Row} {sp : Nat → Option Nat} {L a b : Nat} {t v : Int32} (hL : L ≤ 120) (ha : a ≤ L) {a1 b1 : Nat} {t1 v1 : Int32} {to1 : Row} (most : Int32) (hq : c_row tp L 56 most a t v to = ((a1, b1, t1, v1), true, to1)) : Cm l yX2_row (ws_ yX2_row cX2_row 4 none) ({ frames := 9, cells := 0, slots := 0, locals := 196 }) (cF G) [.ref (G.ad 5 2), .ref (G.ad 4 2), .int most] (cct G (pg d kp as un to (rd sc L a b t v) fd tp sh) sp) (fun _ : Unit => none) (fun _ => cct G (pg d kp as un to1 (rd sc L a1 b1 t1 v1) fd tp sh) sp) := by
  refine Cm.start (by decide) (Nat.le_of_ble_eq_true rfl) ?_
  intro p e s m below meth c hf hX hC ls hl
  obtain ⟨hx, hb, hr, hml, hown, hts, hlocks⟩ := hf
  have hl : lv_has ls 4 [(0, .ref (G.ad 5 2)), (1, .ref (G.ad 4 2)), (2, .int most)] := hl
  have hown : s.vm.findClass "OwlEars$Reader" = some m.cls := hown
  rcases hn : c_beh tp L 0 35 a t v with ⟨⟨a2, b2, t2, v2⟩, ok2, x⟩
  cases ok2
  · rw [row_f hn] at hq
    exact absurd (show false = true from congrArg (fun z => z.2.1) hq) (by decide)
  · rcases hm : c_num tp L 0 most a2 b2 t2 v2 with ⟨⟨a3, b3, t3, v3⟩, ok3⟩
    cases ok3
    · rw [row_tf hn hm] at hq
      exact absurd (show false = true from congrArg (fun z => z.2.1) hq) (by decide)
    · rw [row_tt hn hm] at hq
      have h1 : a3 = a1 := congrArg (fun z => z.1.1) hq
      have h2 : b3 = b1 := congrArg (fun z => z.1.2.1) hq
      have h3 : t3 = t1 := congrArg (fun z => z.1.2.2.1) hq
      have h4 : v3 = v1 := congrArg (fun z => z.1.2.2.2) hq
      have h5 : (upd to (56 + ix x) v2) = to1 := congrArg (fun z => z.2.2) hq
      refine lv_aload_n hx hb dX2_row_0 rfl (lv_at hl 0 rfl) ?_
      refine lv_iconst (v := 0) hx hb dX2_row_1 rfl ?_
      refine lv_bipush (v := 35) hx hb dX2_row_2 rfl ?_
      refine fc_V (As := [.int 0, .int 35]) (rest := []) hx hb hml hown hts hX hC (m_X2_behind_T (sc := sc) (L := L) (a := a) (b := b) (t := t) (v := v) hL ha 0 35 x hn) (lw_V q1151 q1153 qs44 q113 q1154) hdV_X2_behind ⟨rfl, rfl⟩ ⟨Nat.le_of_ble_eq_true rfl, Nat.le_of_ble_eq_true rfl⟩ (fx_recv (g := 5) (i := 2) (ci := 3) (q := (RX2, TX2, 8)) hX hC (cin rfl) rfl rfl) hl.1 rfl (Nat.le_of_ble_eq_true rfl) ⟨Nat.zero_le _, Nat.zero_le _⟩ dX2_row_4 (fun _ H locs hC => ?_)
      refine W.eq (g2 := F0 m 7 ls [.int x]) rfl ?_
      refine lv_istore_n (lv' := [(3, .int x), (0, .ref (G.ad 5 2)), (1, .ref (G.ad 4 2)), (2, .int most)]) hx hb dX2_row_7 rfl hl (by decide) rfl (fun ls hl => ?_)
      refine lv_aload_n hx hb dX2_row_8 rfl (lv_at hl 2 rfl) ?_
      refine lv_iload_n hx hb dX2_row_9 rfl (lv_at hl 0 rfl) ?_
      refine lv_aload_n hx hb dX2_row_10 rfl (lv_at hl 1 rfl) ?_
      refine lv_iconst (v := 0) hx hb dX2_row_11 rfl ?_
      refine lv_iload_n hx hb dX2_row_12 rfl (lv_at hl 3 rfl) ?_
      refine fc_V (As := [.int 0, .int most]) (rest := [.int x, .ref (G.ad 4 2)]) hx hb hml hown hts hX hC (m_X2_number_T (sc := sc) (L := L) (a := a2) (b := b2) (t := t2) (v := v2) hL (beh_L ha hn).1 0 most hm) (lw_V q1155 q1157 qs45 q113 q1158) hdV_X2_number ⟨rfl, rfl⟩ ⟨Nat.le_of_ble_eq_true rfl, Nat.le_of_ble_eq_true rfl⟩ (fx_recv (g := 5) (i := 2) (ci := 3) (q := (RX2, TX2, 8)) hX hC (cin rfl) rfl rfl) hl.1 rfl (Nat.le_of_ble_eq_true rfl) ⟨Nat.zero_le _, Nat.zero_le _⟩ dX2_row_13 (fun _ H locs hC => ?_)
      refine W.eq (g2 := F0 m 16 ls [.int v2, .int x, .ref (G.ad 4 2)]) rfl ?_
      refine fg_iast (g := 4) (i := 2) (t0 := 0) hx hb hX hC (cin rfl) rfl rfl (vin_of (beh_in hn) 36 (by decide)) (cct G (pg d kp as un (upd to (56 + ix x) v2) (rd sc L a3 b3 t3 v3) fd tp sh) sp) (cs4_noise (k := ix x) (vin_lt (vin_of (beh_in hn) 36 (by decide)))) dX2_row_16 (fun H locs hC => ?_)
      exact fr_v hx hb hr hlocks hX hC () rfl ((congrArg (fun z => cct G (pg d kp as un z (rd sc L a3 b3 t3 v3) fd tp sh) sp) (h5)).trans (congrArg (fun z => cct G (pg d kp as un to1 z fd tp sh) sp) (by rw [h1, h2, h3, h4]))) dX2_row_17
set_option maxRecDepth 100000 in
theorem m_X2_row_2F {l : Launch} {G : Gc} {d kp as un to sc fd tp sh : Row} {sp : Nat → Option Nat} {L a b : Nat} {t v : Int32} (hL : L ≤ 120) (ha : a ≤ L) {a1 b1 : Nat} {t1 v1 : Int32} {to1 : Row} (most : Int32) (hq : c_row tp L 56 most a t v to = ((a1, b1, t1, v1), false, to1)) : CmX l yX2_row (ws_ yX2_row cX2_row 4 none) ({ frames := 9, cells := 0, slots := 0, locals := 196 }) (cF G) [.ref (G.ad 5 2), .ref (G.ad 4 2), .int most] (cct G (pg d kp as un to (rd sc L a b t v) fd tp sh) sp) (fun _ : Unit => .threw (G.ad 5 3)) (fun _ => cct G (pg d kp as un to1 (rd sc L a1 b1 t1 v1) fd tp sh) sp) := by
  refine CmX.start (by decide) (Nat.le_of_ble_eq_true rfl) ?_
  intro p e s m below meth c hf hE hX hC ls hl
  obtain ⟨hx, hb, hr, hml, hown, hts, hlocks⟩ := hf
  have hl : lv_has ls 4 [(0, .ref (G.ad 5 2)), (1, .ref (G.ad 4 2)), (2, .int most)] := hl
  have hown : s.vm.findClass "OwlEars$Reader" = some m.cls := hown
  rcases hn : c_beh tp L 0 35 a t v with ⟨⟨a2, b2, t2, v2⟩, ok2, x⟩
  cases ok2
  · rw [row_f hn] at hq
    have h1 : a2 = a1 := congrArg (fun z => z.1.1) hq
    have h2 : b2 = b1 := congrArg (fun z => z.1.2.1) hq
    have h3 : t2 = t1 := congrArg (fun z => z.1.2.2.1) hq
    have h4 : v2 = v1 := congrArg (fun z => z.1.2.2.2) hq
    have h5 : to = to1 := congrArg (fun z => z.2.2) hq
    refine lv_aload_n hx hb dX2_row_0 rfl (lv_at hl 0 rfl) ?_
    refine lv_iconst (v := 0) hx hb dX2_row_1 rfl ?_
    refine lv_bipush (v := 35) hx hb dX2_row_2 rfl ?_
    refine fc_VT (As := [.int 0, .int 35]) (rest := []) hx hb hml hown hts hX hC (m_X2_behind_F (sc := sc) (L := L) (a := a) (b := b) (t := t) (v := v) hL ha 0 35 x hn) (lw_V q1151 q1153 qs44 q113 q1154) hdV_X2_behind ⟨rfl, rfl⟩ ⟨Nat.le_of_ble_eq_true rfl, Nat.le_of_ble_eq_true rfl⟩ (fx_recv (g := 5) (i := 2) (ci := 3) (q := (RX2, TX2, 8)) hX hC (cin rfl) rfl rfl) hl.1 rfl (Nat.le_of_ble_eq_true rfl) ⟨Nat.zero_le _, Nat.zero_le _⟩ dX2_row_4 (fun _ H locs hC => ?_)
    exact fx_out hlocks hX hC hE rfl () rfl (by rw [h1, h2, h3, h4, h5])
  · rcases hm : c_num tp L 0 most a2 b2 t2 v2 with ⟨⟨a3, b3, t3, v3⟩, ok3⟩
    cases ok3
    · rw [row_tf hn hm] at hq
      have h1 : a3 = a1 := congrArg (fun z => z.1.1) hq
      have h2 : b3 = b1 := congrArg (fun z => z.1.2.1) hq
      have h3 : t3 = t1 := congrArg (fun z => z.1.2.2.1) hq
      have h4 : v3 = v1 := congrArg (fun z => z.1.2.2.2) hq
      have h5 : to = to1 := congrArg (fun z => z.2.2) hq
      refine lv_aload_n hx hb dX2_row_0 rfl (lv_at hl 0 rfl) ?_
      refine lv_iconst (v := 0) hx hb dX2_row_1 rfl ?_
      refine lv_bipush (v := 35) hx hb dX2_row_2 rfl ?_
      refine fc_V (As := [.int 0, .int 35]) (rest := []) hx hb hml hown hts hX hC (m_X2_behind_T (sc := sc) (L := L) (a := a) (b := b) (t := t) (v := v) hL ha 0 35 x hn) (lw_V q1151 q1153 qs44 q113 q1154) hdV_X2_behind ⟨rfl, rfl⟩ ⟨Nat.le_of_ble_eq_true rfl, Nat.le_of_ble_eq_true rfl⟩ (fx_recv (g := 5) (i := 2) (ci := 3) (q := (RX2, TX2, 8)) hX hC (cin rfl) rfl rfl) hl.1 rfl (Nat.le_of_ble_eq_true rfl) ⟨Nat.zero_le _, Nat.zero_le _⟩ dX2_row_4 (fun _ H locs hC => ?_)
      refine W.eq (g2 := F0 m 7 ls [.int x]) rfl ?_
      refine lv_istore_n (lv' := [(3, .int x), (0, .ref (G.ad 5 2)), (1, .ref (G.ad 4 2)), (2, .int most)]) hx hb dX2_row_7 rfl hl (by decide) rfl (fun ls hl => ?_)
      refine lv_aload_n hx hb dX2_row_8 rfl (lv_at hl 2 rfl) ?_
      refine lv_iload_n hx hb dX2_row_9 rfl (lv_at hl 0 rfl) ?_
      refine lv_aload_n hx hb dX2_row_10 rfl (lv_at hl 1 rfl) ?_
      refine lv_iconst (v := 0) hx hb dX2_row_11 rfl ?_
      refine lv_iload_n hx hb dX2_row_12 rfl (lv_at hl 3 rfl) ?_
      refine fc_VT (As := [.int 0, .int most]) (rest := [.int x, .ref (G.ad 4 2)]) hx hb hml hown hts hX hC (m_X2_number_F (sc := sc) (L := L) (a := a2) (b := b2) (t := t2) (v := v2) hL (beh_L ha hn).1 0 most hm) (lw_V q1155 q1157 qs45 q113 q1158) hdV_X2_number ⟨rfl, rfl⟩ ⟨Nat.le_of_ble_eq_true rfl, Nat.le_of_ble_eq_true rfl⟩ (fx_recv (g := 5) (i := 2) (ci := 3) (q := (RX2, TX2, 8)) hX hC (cin rfl) rfl rfl) hl.1 rfl (Nat.le_of_ble_eq_true rfl) ⟨Nat.zero_le _, Nat.zero_le _⟩ dX2_row_13 (fun _ H locs hC => ?_)
      exact fx_out hlocks hX hC hE rfl () rfl (by rw [h1, h2, h3, h4, h5])
    · rw [row_tt hn hm] at hq
      exact absurd (show true = false from congrArg (fun z => z.2.1) hq) (by decide)
