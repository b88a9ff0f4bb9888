theorem hdV_X2_number : yX2_number.cls = RX2 ∧ yX2_number.cls ≠ "java/lang/invoke/MethodHandle" ∧ yX2_number.cls ≠ "java/lang/invoke/VarHandle" ∧ (parseMethodDescriptor yX2_number.desc).map (fun d => d.parameters.length) = some 2 := by decide +kernel
def c_beh (tp : Row) (L : Nat) (lo hi : Int32) (a : Nat) (t v : Int32) : (Nat × Nat × Int32 × Int32) × Bool × Int32 := if (c_next tp L a t v).2 = true then ((c_num tp L lo hi (c_next tp L a t v).1.1 (c_next tp L a t v).1.2.1 (c_next tp L a t v).1.2.2.1 (c_next tp L a t v).1.2.2.2).1, (c_num tp L lo hi (c_next tp L a t v).1.1 (c_next tp L a t v).1.2.1 (c_next tp L a t v).1.2.2.1 (c_next tp L a t v).1.2.2.2).2, (c_next tp L a t v).1.2.2.2) else ((c_next tp L a t v).1, false, 0)
theorem beh_t {tp : Row} {L a a2 b2 : Nat} {lo hi t v t2 v2 : Int32} (hn : c_next tp L a t v = ((a2, b2, t2, v2), true)) : c_beh tp L lo hi a t v = ((c_num tp L lo hi a2 b2 t2 v2).1, (c_num tp L lo hi a2 b2 t2 v2).2, v2) := by
  unfold c_beh
  rw [hn, if_pos rfl]
theorem beh_f {tp : Row} {L a a2 b2 : Nat} {lo hi t v t2 v2 : Int32} (hn : c_next tp L a t v = ((a2, b2, t2, v2), false)) : c_beh tp L lo hi a t v = ((a2, b2, t2, v2), false, 0) := by
  unfold c_beh
  rw [hn, if_neg (show ¬ (false = true) by decide)]
set_option maxRecDepth 100000 in
theorem m_X2_behind_T {l : Launch} {G : Gc} {d kp as un to sc fd tp sh : Row} {sp : Nat → Option Nat} {L a b : Nat} {t v : Int32} (hL : L ≤ 120) (ha : a ≤ L) {a1 b1 : Nat} {t1 v1 : Int32} (lo hi x : Int32) (hq : c_beh tp L lo hi a t v = ((a1, b1, t1, v1), true, x)) : Cm l yX2_behind (ws_ yX2_behind cX2_behind 3 (some .int)) ({ frames := 8, cells := 0, slots := 0, locals := 174 }) (cF G) [.ref (G.ad 5 2), .int lo, .int hi] (cct G (pg d kp as un to (rd sc L a b t v) fd tp sh) sp) (fun _ : Unit => some (.int x)) (fun _ => cct G (pg d kp as un to (rd sc L a1 b1 t1 v1) fd tp sh) sp) := by
  refine Cm.start (by decide) (Nat.le_of_ble_eq_true rfl) ?_
  intro p e s m below meth c hf hX hC ls hl
  obtain ⟨hx, hb, hr, hml, hown, hts, hlocks⟩ := hf
  have hl : lv_has ls 3 [(0, .ref (G.ad 5 2)), (1, .int lo), (2, .int hi)] := hl
  have hown : s.vm.findClass "OwlEars$Reader" = some m.cls := hown
  rcases hn : c_next tp L a t v with ⟨⟨a2, b2, t2, v2⟩, ok2⟩
  cases ok2
  · rw [beh_f hn] at hq
    exact absurd (show false = true from congrArg (fun z => z.2.1) hq) (by decide)
  · rw [beh_t hn] at hq
    have hm : c_num tp L lo hi a2 b2 t2 v2 = ((a1, b1, t1, v1), true) := Prod.ext (congrArg (fun z => z.1) hq) (congrArg (fun z => z.2.1) hq)
    have hx9 : v2 = x := congrArg (fun z => z.2.2) hq
    refine lv_aload_n hx hb dX2_behind_0 rfl (lv_at hl 0 rfl) ?_
    refine fc_V (As := []) (rest := []) hx hb hml hown hts hX hC (m_X2_next_T (sc := sc) (L := L) (a := a) (b := b) (t := t) (v := v) hL ha hn) (lw_V q1071 q1073 qs36 q113 q1074) hdV_X2_next ⟨rfl, rfl⟩ ⟨Nat.le_of_ble_eq_true rfl, Nat.le_of_ble_eq_true rfl⟩ (fx_recv (g := 5) (i := 2) (ci := 3) (q := (RX2, TX2, 8)) hX hC (cin rfl) rfl rfl) hl.1 rfl (Nat.le_of_ble_eq_true rfl) ⟨Nat.zero_le _, Nat.zero_le _⟩ dX2_behind_1 (fun _ H locs hC => ?_)
    refine W.eq (g2 := F0 m 4 ls []) rfl ?_
    refine lv_aload_n hx hb dX2_behind_4 rfl (lv_at hl 0 rfl) ?_
    refine lv_iload_n hx hb dX2_behind_5 rfl (lv_at hl 1 rfl) ?_
    refine lv_iload_n hx hb dX2_behind_6 rfl (lv_at hl 2 rfl) ?_
    refine fc_V (As := [.int lo, .int hi]) (rest := []) hx hb hml hown hts hX hC (m_X2_number_T (sc := sc) (L := L) (a := a2) (b := b2) (t := t2) (v := v2) hL (next_L ha hn).1 lo hi hm) (lw_V q1155 q1157 qs45 q113 q1158) hdV_X2_number ⟨rfl, rfl⟩ ⟨Nat.le_of_ble_eq_true rfl, Nat.le_of_ble_eq_true rfl⟩ (fx_recv (g := 5) (i := 2) (ci := 3) (q := (RX2, TX2, 8)) hX hC (cin rfl) rfl rfl) hl.1 rfl (Nat.le_of_ble_eq_true rfl) ⟨Nat.zero_le _, Nat.zero_le _⟩ dX2_behind_7 (fun _ H locs hC => ?_)
    refine W.eq (g2 := F0 m 10 ls [.int v2]) rfl ?_
    exact fr_i hx hb hr hlocks hX hC () (congrArg (fun z => some (Value.int z)) (hx9.symm)) rfl dX2_behind_10
set_option maxRecDepth 100000 in
theorem m_X2_behind_F {l : Launch} {G : Gc} {d kp as un to sc fd tp sh : Row} {sp : Nat → Option Nat} {L a b : Nat} {t v : Int32} (hL : L ≤ 120) (ha : a ≤ L) {a1 b1 : Nat} {t1 v1 : Int32} (lo hi x : Int32) (hq : c_beh tp L lo hi a t v = ((a1, b1, t1, v1), false, x)) : CmX l yX2_behind (ws_ yX2_behind cX2_behind 3 (some .int)) ({ frames := 8, cells := 0, slots := 0, locals := 174 }) (cF G) [.ref (G.ad 5 2), .int lo, .int hi] (cct G (pg d kp as un to (rd sc L a b t v) fd tp sh) sp) (fun _ : Unit => .threw (G.ad 5 3)) (fun _ => cct G (pg d kp as un to (rd sc L a1 b1 t1 v1) fd tp sh) sp) := by
  refine CmX.start (by decide) (Nat.le_of_ble_eq_true rfl) ?_
  intro p e s m below meth c hf hE hX hC ls hl
  obtain ⟨hx, hb, hr, hml, hown, hts, hlocks⟩ := hf
  have hl : lv_has ls 3 [(0, .ref (G.ad 5 2)), (1, .int lo), (2, .int hi)] := hl
  have hown : s.vm.findClass "OwlEars$Reader" = some m.cls := hown
  rcases hn : c_next tp L a t v with ⟨⟨a2, b2, t2, v2⟩, ok2⟩
  cases ok2
  · rw [beh_f hn] at hq
    have h1 : a2 = a1 := congrArg (fun z => z.1.1) hq
    have h2 : b2 = b1 := congrArg (fun z => z.1.2.1) hq
    have h3 : t2 = t1 := congrArg (fun z => z.1.2.2.1) hq
    have h4 : v2 = v1 := congrArg (fun z => z.1.2.2.2) hq
    refine lv_aload_n hx hb dX2_behind_0 rfl (lv_at hl 0 rfl) ?_
    refine fc_VT (As := []) (rest := []) hx hb hml hown hts hX hC (m_X2_next_F (sc := sc) (L := L) (a := a) (b := b) (t := t) (v := v) hL ha hn) (lw_V q1071 q1073 qs36 q113 q1074) hdV_X2_next ⟨rfl, rfl⟩ ⟨Nat.le_of_ble_eq_true rfl, Nat.le_of_ble_eq_true rfl⟩ (fx_recv (g := 5) (i := 2) (ci := 3) (q := (RX2, TX2, 8)) hX hC (cin rfl) rfl rfl) hl.1 rfl (Nat.le_of_ble_eq_true rfl) ⟨Nat.zero_le _, Nat.zero_le _⟩ dX2_behind_1 (fun _ H locs hC => ?_)
    exact fx_out hlocks hX hC hE rfl () rfl (by rw [h1, h2, h3, h4])
  · rw [beh_t hn] at hq
    have hm : c_num tp L lo hi a2 b2 t2 v2 = ((a1, b1, t1, v1), false) := Prod.ext (congrArg (fun z => z.1) hq) (congrArg (fun z => z.2.1) hq)
    have hx9 : v2 = x := congrArg (fun z => z.2.2) hq
    refine lv_aload_n hx hb dX2_behind_0 rfl (lv_at hl 0 rfl) ?_
    refine fc_V (As := []) (rest := []) hx hb hml hown hts hX hC (m_X2_next_T (sc := sc) (L := L) (a := a) (b := b) (t := t) (v := v) hL ha hn) (lw_V q1071 q1073 qs36 q113 q1074) hdV_X2_next ⟨rfl, rfl⟩ ⟨Nat.le_of_ble_eq_true rfl, Nat.le_of_ble_eq_true rfl⟩ (fx_recv (g := 5) (i := 2) (ci := 3) (q := (RX2, TX2, 8)) hX hC (cin rfl) rfl rfl) hl.1 rfl (Nat.le_of_ble_eq_true rfl) ⟨Nat.zero_le _, Nat.zero_le _⟩ dX2_behind_1 (fun _ H locs hC => ?_)
    refine W.eq (g2 := F0 m 4 ls []) rfl ?_
    refine lv_aload_n hx hb dX2_behind_4 rfl (lv_at hl 0 rfl) ?_
    refine lv_iload_n hx hb dX2_behind_5 rfl (lv_at hl 1 rfl) ?_
    refine lv_iload_n hx hb dX2_behind_6 rfl (lv_at hl 2 rfl) ?_
    refine fc_VT (As := [.int lo, .int hi]) (rest := []) hx hb hml hown hts hX hC (m_X2_number_F (sc := sc) (L := L) (a := a2) (b := b2) (t := t2) (v := v2) hL (next_L ha hn).1 lo hi hm) (lw_V q1155 q1157 qs45 q113 q1158) hdV_X2_number ⟨rfl, rfl⟩ ⟨Nat.le_of_ble_eq_true rfl, Nat.le_of_ble_eq_true rfl⟩ (fx_recv (g := 5) (i := 2) (ci := 3) (q := (RX2, TX2, 8)) hX hC (cin rfl) rfl rfl) hl.1 rfl (Nat.le_of_ble_eq_true rfl) ⟨Nat.zero_le _, Nat.zero_le _⟩ dX2_behind_7 (fun _ H locs hC => ?_)
    exact fx_out hlocks hX hC hE rfl () rfl rfl
