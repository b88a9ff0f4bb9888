theorem hdV_X2_heading : yX2_heading.cls = RX2 ∧ yX2_heading.cls ≠ "java/lang/invoke/MethodHandle" ∧ yX2_heading.cls ≠ "java/lang/invoke/VarHandle" ∧ (parseMethodDescriptor yX2_heading.desc).map (fun d => d.parameters.length) = some 1 := by decide +kernel
def c_owl (tp : Row) (L a : Nat) (t v : Int32) (to : Row) : (Nat × Nat × Int32 × Int32) × Bool × Row :=
  if (c_beh tp L 0 35 a t v).2.1 = true then
    (if (c_head tp L (to 9) (c_beh tp L 0 35 a t v).1.1 (c_beh tp L 0 35 a t v).1.2.1 (c_beh tp L 0 35 a t v).1.2.2.1 (c_beh tp L 0 35 a t v).1.2.2.2).2.1 = true then
      ((c_head tp L (to 9) (c_beh tp L 0 35 a t v).1.1 (c_beh tp L 0 35 a t v).1.2.1 (c_beh tp L 0 35 a t v).1.2.2.1 (c_beh tp L 0 35 a t v).1.2.2.2).1, true, upd (upd to 8 (c_beh tp L 0 35 a t v).2.2) 9 (c_head tp L (to 9) (c_beh tp L 0 35 a t v).1.1 (c_beh tp L 0 35 a t v).1.2.1 (c_beh tp L 0 35 a t v).1.2.2.1 (c_beh tp L 0 35 a t v).1.2.2.2).2.2)
    else ((c_head tp L (to 9) (c_beh tp L 0 35 a t v).1.1 (c_beh tp L 0 35 a t v).1.2.1 (c_beh tp L 0 35 a t v).1.2.2.1 (c_beh tp L 0 35 a t v).1.2.2.2).1, false, upd to 8 (c_beh tp L 0 35 a t v).2.2))
  else ((c_beh tp L 0 35 a t v).1, false, to)
theorem owl_f {tp to : Row} {L a a2 b2 : Nat} {t v t2 v2 x : Int32} (hn : c_beh tp L 0 35 a t v = ((a2, b2, t2, v2), false, x)) : c_owl tp L a t v to = ((a2, b2, t2, v2), false, to) := by
  unfold c_owl
  rw [hn, if_neg (show ¬ (false = true) by decide)]
theorem owl_tf {tp to : Row} {L a a2 b2 a3 b3 : Nat} {t v t2 v2 x t3 v3 y : Int32} (hn : c_beh tp L 0 35 a t v = ((a2, b2, t2, v2), true, x)) (hm : c_head tp L (to 9) a2 b2 t2 v2 = ((a3, b3, t3, v3), false, y)) : c_owl tp L a t v to = ((a3, b3, t3, v3), false, upd to 8 x) := by
  unfold c_owl
  rw [hn, if_pos (show true = true from rfl)]
  show (if (c_head tp L (to 9) a2 b2 t2 v2).2.1 = true then _ else _) = _
  rw [hm, if_neg (show ¬ (false = true) by decide)]
theorem owl_tt {tp to : Row} {L a a2 b2 a3 b3 : Nat} {t v t2 v2 x t3 v3 y : Int32} (hn : c_beh tp L 0 35 a t v = ((a2, b2, t2, v2), true, x)) (hm : c_head tp L (to 9) a2 b2 t2 v2 = ((a3, b3, t3, v3), true, y)) : c_owl tp L a t v to = ((a3, b3, t3, v3), true, upd (upd to 8 x) 9 y) := by
  unfold c_owl
  rw [hn, if_pos (show true = true from rfl)]
  show (if (c_head tp L (to 9) a2 b2 t2 v2).2.1 = true then _ else _) = _
  rw [hm, if_pos (show true = true from rfl)]
set_option maxRecDepth 100000 in
theorem m_X2_owl_T {l : Launch} {G : Gc} {d kp as un to sc fd tp sh : Row} {sp : Nat → Option Nat} {L a b : Nat} {t v : Int32} (hL : L ≤ 120) (ha : a ≤ L) {a1 b1 : Nat} {t1 v1 : Int32} {to1 : Row} (hq : c_owl tp L a t v to = ((a1, b1, t1, v1), true, to1)) : Cm l yX2_owl (ws_ yX2_owl cX2_owl 1 none) ({ frames := 9, cells := 0, slots := 0, locals := 196 }) (cF G) [.ref (G.ad 5 2)] (cct G (pg d kp as un to (rd sc L a b t v) fd tp sh) sp) (fun _ : Unit => none) (fun _ => cct G (pg d kp as un to1 (rd sc L a1 b1 t1 v1) fd tp sh) sp) := by
  refine Cm.start (by decide) (Nat.le_of_ble_eq_true rfl) ?_
  intro p e s m below meth c hf hX hC ls hl
  obtain ⟨hx, hb, hr, hml, hown, hts, hlocks⟩ := hf
  have hl : lv_has ls 1 [(0, .ref (G.ad 5 2))] := hl
  have hown : s.vm.findClass "OwlEars$Reader" = some m.cls := hown
  rcases hn : c_beh tp L 0 35 a t v with ⟨⟨a2, b2, t2, v2⟩, ok2, x⟩
  cases ok2
  · rw [owl_f hn] at hq
    exact absurd (show false = true from congrArg (fun z => z.2.1) hq) (by decide)
  · rcases hm : c_head tp L (to 9) a2 b2 t2 v2 with ⟨⟨a3, b3, t3, v3⟩, ok3, y⟩
    cases ok3
    · rw [owl_tf hn hm] at hq
      exact absurd (show false = true from congrArg (fun z => z.2.1) hq) (by decide)
    · rw [owl_tt hn hm] at hq
      have h1 : a3 = a1 := congrArg (fun z => z.1.1) hq
      have h2 : b3 = b1 := congrArg (fun z => z.1.2.1) hq
      have h3 : t3 = t1 := congrArg (fun z => z.1.2.2.1) hq
      have h4 : v3 = v1 := congrArg (fun z => z.1.2.2.2) hq
      have h5 : (upd (upd to 8 x) 9 y) = to1 := congrArg (fun z => z.2.2) hq
      refine lv_aload_n hx hb dX2_owl_0 rfl (lv_at hl 0 rfl) ?_
      refine fg_get (C := RX2) (T := TX2) (N := 8) (ci := 3) (g := 5) (i := 2) (v := .ref (G.ad 4 0)) hx hb hown hts hX hC in_X2 rfl (cin rfl) rfl 2 (by decide) q288 (fun _ h => h) rfl dX2_owl_1 ?_
      refine fg_getN (C := RX4) (T := TX4) (N := 9) (ci := 0) (g := 4) (i := 0) (v := .ref (G.ad 4 4)) hx hb hown hts hX hC in_X4 rfl (cin rfl) rfl 3 (by decide) (hX.2.2.1.F q249) (fun _ h => h) rfl dX2_owl_4 ?_
      refine lv_iconst (v := 0) hx hb dX2_owl_7 rfl ?_
      refine lv_aload_n hx hb dX2_owl_8 rfl (lv_at hl 0 rfl) ?_
      refine lv_iconst (v := 0) hx hb dX2_owl_9 rfl ?_
      refine lv_bipush (v := 35) hx hb dX2_owl_10 rfl ?_
      refine fc_V (As := [.int 0, .int 35]) (rest := [.int 0, .ref (G.ad 4 4)]) hx hb hml hown hts hX hC (m_X2_behind_T (sc := sc) (L := L) (a := a) (b := b) (t := t) (v := v) hL ha 0 35 x hn) (lw_V q1151 q1153 qs44 q113 q1154) hdV_X2_behind ⟨rfl, rfl⟩ ⟨Nat.le_of_ble_eq_true rfl, Nat.le_of_ble_eq_true rfl⟩ (fx_recv (g := 5) (i := 2) (ci := 3) (q := (RX2, TX2, 8)) hX hC (cin rfl) rfl rfl) hl.1 rfl (Nat.le_of_ble_eq_true rfl) ⟨Nat.zero_le _, Nat.zero_le _⟩ dX2_owl_12 (fun _ H locs hC => ?_)
      refine W.eq (g2 := F0 m 15 ls [.int x, .int 0, .ref (G.ad 4 4)]) rfl ?_
      refine fg_iast (g := 4) (i := 4) (t0 := 0) hx hb hX hC (cin rfl) rfl rfl (vin_b rfl) (cct G (pg d kp as un (upd to 8 x) (rd sc L a2 b2 t2 v2) fd tp sh) sp) (cs4_owl (k := 0) (by decide)) dX2_owl_15 (fun H locs hC => ?_)
      refine lv_aload_n hx hb dX2_owl_16 rfl (lv_at hl 0 rfl) ?_
      refine fg_get (C := RX2) (T := TX2) (N := 8) (ci := 3) (g := 5) (i := 2) (v := .ref (G.ad 4 0)) hx hb hown hts hX hC in_X2 rfl (cin rfl) rfl 2 (by decide) q288 (fun _ h => h) rfl dX2_owl_17 ?_
      refine fg_getN (C := RX4) (T := TX4) (N := 9) (ci := 0) (g := 4) (i := 0) (v := .ref (G.ad 4 4)) hx hb hown hts hX hC in_X4 rfl (cin rfl) rfl 3 (by decide) (hX.2.2.1.F q249) (fun _ h => h) rfl dX2_owl_20 ?_
      refine lv_iconst (v := 1) hx hb dX2_owl_23 rfl ?_
      refine lv_aload_n hx hb dX2_owl_24 rfl (lv_at hl 0 rfl) ?_
      refine lv_aload_n hx hb dX2_owl_25 rfl (lv_at hl 0 rfl) ?_
      refine fg_get (C := RX2) (T := TX2) (N := 8) (ci := 3) (g := 5) (i := 2) (v := .ref (G.ad 4 0)) hx hb hown hts hX hC in_X2 rfl (cin rfl) rfl 2 (by decide) q288 (fun _ h => h) rfl dX2_owl_26 ?_
      refine fg_getN (C := RX4) (T := TX4) (N := 9) (ci := 0) (g := 4) (i := 0) (v := .ref (G.ad 4 4)) hx hb hown hts hX hC in_X4 rfl (cin rfl) rfl 3 (by decide) (hX.2.2.1.F q249) (fun _ h => h) rfl dX2_owl_29 ?_
      refine lv_iconst (v := 1) hx hb dX2_owl_32 rfl ?_
      refine fg_iald (g := 4) (i := 4) (t0 := 0) (v := to 9) hx hb hX hC (cin rfl) rfl rfl (vin_b rfl) rfl dX2_owl_33 ?_
      refine fc_V (As := [.int (to 9)]) (rest := [.int 1, .ref (G.ad 4 4)]) hx hb hml hown hts hX hC (m_X2_heading_T (sc := sc) (L := L) (a := a2) (b := b2) (t := t2) (v := v2) hL (beh_L ha hn).1 (to 9) y hm) (lw_V q1159 q1161 qs46 q113 q1162) hdV_X2_heading ⟨rfl, rfl⟩ ⟨Nat.le_of_ble_eq_true rfl, Nat.le_of_ble_eq_true rfl⟩ (fx_recv (g := 5) (i := 2) (ci := 3) (q := (RX2, TX2, 8)) hX hC (cin rfl) rfl rfl) hl.1 rfl (Nat.le_of_ble_eq_true rfl) ⟨Nat.zero_le _, Nat.zero_le _⟩ dX2_owl_34 (fun _ H locs hC => ?_)
      refine W.eq (g2 := F0 m 37 ls [.int y, .int 1, .ref (G.ad 4 4)]) rfl ?_
      refine fg_iast (g := 4) (i := 4) (t0 := 0) hx hb hX hC (cin rfl) rfl rfl (vin_b rfl) (cct G (pg d kp as un (upd (upd to 8 x) 9 y) (rd sc L a3 b3 t3 v3) fd tp sh) sp) (cs4_owl (k := 1) (by decide)) dX2_owl_37 (fun H locs hC => ?_)
      exact fr_v hx hb hr hlocks hX hC () rfl ((congrArg (fun z => cct G (pg d kp as un z (rd sc L a3 b3 t3 v3) fd tp sh) sp) (h5)).trans (congrArg (fun z => cct G (pg d kp as un to1 z fd tp sh) sp) (by rw [h1, h2, h3, h4]))) dX2_owl_38
set_option maxRecDepth 100000 in
theorem m_X2_owl_F {l : Launch} {G : Gc} {d kp as un to sc fd tp sh : Row} {sp : Nat → Option Nat} {L a b : Nat} {t v : Int32} (hL : L ≤ 120) (ha : a ≤ L) {a1 b1 : Nat} {t1 v1 : Int32} {to1 : Row} (hq : c_owl tp L a t v to = ((a1, b1, t1, v1), false, to1)) : CmX l yX2_owl (ws_ yX2_owl cX2_owl 1 none) ({ frames := 9, cells := 0, slots := 0, locals := 196 }) (cF G) [.ref (G.ad 5 2)] (cct G (pg d kp as un to (rd sc L a b t v) fd tp sh) sp) (fun _ : Unit => .threw (G.ad 5 3)) (fun _ => cct G (pg d kp as un to1 (rd sc L a1 b1 t1 v1) fd tp sh) sp) := by
  refine CmX.start (by decide) (Nat.le_of_ble_eq_true rfl) ?_
  intro p e s m below meth c hf hE hX hC ls hl
  obtain ⟨hx, hb, hr, hml, hown, hts, hlocks⟩ := hf
  have hl : lv_has ls 1 [(0, .ref (G.ad 5 2))] := hl
  have hown : s.vm.findClass "OwlEars$Reader" = some m.cls := hown
  rcases hn : c_beh tp L 0 35 a t v with ⟨⟨a2, b2, t2, v2⟩, ok2, x⟩
  cases ok2
  · rw [owl_f hn] at hq
    have h1 : a2 = a1 := congrArg (fun z => z.1.1) hq
    have h2 : b2 = b1 := congrArg (fun z => z.1.2.1) hq
    have h3 : t2 = t1 := congrArg (fun z => z.1.2.2.1) hq
    have h4 : v2 = v1 := congrArg (fun z => z.1.2.2.2) hq
    have h5 : to = to1 := congrArg (fun z => z.2.2) hq
    refine lv_aload_n hx hb dX2_owl_0 rfl (lv_at hl 0 rfl) ?_
    refine fg_get (C := RX2) (T := TX2) (N := 8) (ci := 3) (g := 5) (i := 2) (v := .ref (G.ad 4 0)) hx hb hown hts hX hC in_X2 rfl (cin rfl) rfl 2 (by decide) q288 (fun _ h => h) rfl dX2_owl_1 ?_
    refine fg_getN (C := RX4) (T := TX4) (N := 9) (ci := 0) (g := 4) (i := 0) (v := .ref (G.ad 4 4)) hx hb hown hts hX hC in_X4 rfl (cin rfl) rfl 3 (by decide) (hX.2.2.1.F q249) (fun _ h => h) rfl dX2_owl_4 ?_
    refine lv_iconst (v := 0) hx hb dX2_owl_7 rfl ?_
    refine lv_aload_n hx hb dX2_owl_8 rfl (lv_at hl 0 rfl) ?_
    refine lv_iconst (v := 0) hx hb dX2_owl_9 rfl ?_
    refine lv_bipush (v := 35) hx hb dX2_owl_10 rfl ?_
    refine fc_VT (As := [.int 0, .int 35]) (rest := [.int 0, .ref (G.ad 4 4)]) hx hb hml hown hts hX hC (m_X2_behind_F (sc := sc) (L := L) (a := a) (b := b) (t := t) (v := v) hL ha 0 35 x hn) (lw_V q1151 q1153 qs44 q113 q1154) hdV_X2_behind ⟨rfl, rfl⟩ ⟨Nat.le_of_ble_eq_true rfl, Nat.le_of_ble_eq_true rfl⟩ (fx_recv (g := 5) (i := 2) (ci := 3) (q := (RX2, TX2, 8)) hX hC (cin rfl) rfl rfl) hl.1 rfl (Nat.le_of_ble_eq_true rfl) ⟨Nat.zero_le _, Nat.zero_le _⟩ dX2_owl_12 (fun _ H locs hC => ?_)
    exact fx_out hlocks hX hC hE rfl () rfl (by rw [h1, h2, h3, h4, h5])
  · rcases hm : c_head tp L (to 9) a2 b2 t2 v2 with ⟨⟨a3, b3, t3, v3⟩, ok3, y⟩
    cases ok3
    · rw [owl_tf hn hm] at hq
      have h1 : a3 = a1 := congrArg (fun z => z.1.1) hq
      have h2 : b3 = b1 := congrArg (fun z => z.1.2.1) hq
      have h3 : t3 = t1 := congrArg (fun z => z.1.2.2.1) hq
      have h4 : v3 = v1 := congrArg (fun z => z.1.2.2.2) hq
      have h5 : (upd to 8 x) = to1 := congrArg (fun z => z.2.2) hq
      refine lv_aload_n hx hb dX2_owl_0 rfl (lv_at hl 0 rfl) ?_
      refine fg_get (C := RX2) (T := TX2) (N := 8) (ci := 3) (g := 5) (i := 2) (v := .ref (G.ad 4 0)) hx hb hown hts hX hC in_X2 rfl (cin rfl) rfl 2 (by decide) q288 (fun _ h => h) rfl dX2_owl_1 ?_
      refine fg_getN (C := RX4) (T := TX4) (N := 9) (ci := 0) (g := 4) (i := 0) (v := .ref (G.ad 4 4)) hx hb hown hts hX hC in_X4 rfl (cin rfl) rfl 3 (by decide) (hX.2.2.1.F q249) (fun _ h => h) rfl dX2_owl_4 ?_
      refine lv_iconst (v := 0) hx hb dX2_owl_7 rfl ?_
      refine lv_aload_n hx hb dX2_owl_8 rfl (lv_at hl 0 rfl) ?_
      refine lv_iconst (v := 0) hx hb dX2_owl_9 rfl ?_
      refine lv_bipush (v := 35) hx hb dX2_owl_10 rfl ?_
      refine fc_V (As := [.int 0, .int 35]) (rest := [.int 0, .ref (G.ad 4 4)]) hx hb hml hown hts hX hC (m_X2_behind_T (sc := sc) (L := L) (a := a) (b := b) (t := t) (v := v) hL ha 0 35 x hn) (lw_V q1151 q1153 qs44 q113 q1154) hdV_X2_behind ⟨rfl, rfl⟩ ⟨Nat.le_of_ble_eq_true rfl, Nat.le_of_ble_eq_true rfl⟩ (fx_recv (g := 5) (i := 2) (ci := 3) (q := (RX2, TX2, 8)) hX hC (cin rfl) rfl rfl) hl.1 rfl (Nat.le_of_ble_eq_true rfl) ⟨Nat.zero_le _, Nat.zero_le _⟩ dX2_owl_12 (fun _ H locs hC => ?_)
      refine W.eq (g2 := F0 m 15 ls [.int x, .int 0, .ref (G.ad 4 4)]) rfl ?_
      refine fg_iast (g := 4) (i := 4) (t0 := 0) hx hb hX hC (cin rfl) rfl rfl (vin_b rfl) (cct G (pg d kp as un (upd to 8 x) (rd sc L a2 b2 t2 v2) fd tp sh) sp) (cs4_owl (k := 0) (by decide)) dX2_owl_15 (fun H locs hC => ?_)
      refine lv_aload_n hx hb dX2_owl_16 rfl (lv_at hl 0 rfl) ?_
      refine fg_get (C := RX2) (T := TX2) (N := 8) (ci := 3) (g := 5) (i := 2) (v := .ref (G.ad 4 0)) hx hb hown hts hX hC in_X2 rfl (cin rfl) rfl 2 (by decide) q288 (fun _ h => h) rfl dX2_owl_17 ?_
      refine fg_getN (C := RX4) (T := TX4) (N := 9) (ci := 0) (g := 4) (i := 0) (v := .ref (G.ad 4 4)) hx hb hown hts hX hC in_X4 rfl (cin rfl) rfl 3 (by decide) (hX.2.2.1.F q249) (fun _ h => h) rfl dX2_owl_20 ?_
      refine lv_iconst (v := 1) hx hb dX2_owl_23 rfl ?_
      refine lv_aload_n hx hb dX2_owl_24 rfl (lv_at hl 0 rfl) ?_
      refine lv_aload_n hx hb dX2_owl_25 rfl (lv_at hl 0 rfl) ?_
      refine fg_get (C := RX2) (T := TX2) (N := 8) (ci := 3) (g := 5) (i := 2) (v := .ref (G.ad 4 0)) hx hb hown hts hX hC in_X2 rfl (cin rfl) rfl 2 (by decide) q288 (fun _ h => h) rfl dX2_owl_26 ?_
      refine fg_getN (C := RX4) (T := TX4) (N := 9) (ci := 0) (g := 4) (i := 0) (v := .ref (G.ad 4 4)) hx hb hown hts hX hC in_X4 rfl (cin rfl) rfl 3 (by decide) (hX.2.2.1.F q249) (fun _ h => h) rfl dX2_owl_29 ?_
      refine lv_iconst (v := 1) hx hb dX2_owl_32 rfl ?_
      refine fg_iald (g := 4) (i := 4) (t0 := 0) (v := to 9) hx hb hX hC (cin rfl) rfl rfl (vin_b rfl) rfl dX2_owl_33 ?_
      refine fc_VT (As := [.int (to 9)]) (rest := [.int 1, .ref (G.ad 4 4)]) hx hb hml hown hts hX hC (m_X2_heading_F (sc := sc) (L := L) (a := a2) (b := b2) (t := t2) (v := v2) hL (beh_L ha hn).1 (to 9) y hm) (lw_V q1159 q1161 qs46 q113 q1162) hdV_X2_heading ⟨rfl, rfl⟩ ⟨Nat.le_of_ble_eq_true rfl, Nat.le_of_ble_eq_true rfl⟩ (fx_recv (g := 5) (i := 2) (ci := 3) (q := (RX2, TX2, 8)) hX hC (cin rfl) rfl rfl) hl.1 rfl (Nat.le_of_ble_eq_true rfl) ⟨Nat.zero_le _, Nat.zero_le _⟩ dX2_owl_34 (fun _ H locs hC => ?_)
      exact fx_out hlocks hX hC hE rfl () rfl (by rw [h1, h2, h3, h4, h5])
    · rw [owl_tt hn hm] at hq
      exact absurd (show true = false from congrArg (fun z => z.2.1) hq) (by decide)
