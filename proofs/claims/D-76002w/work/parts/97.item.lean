theorem hdV_X2_mouse : yX2_mouse.cls = RX2 ∧ yX2_mouse.cls ≠ "java/lang/invoke/MethodHandle" ∧ yX2_mouse.cls ≠ "java/lang/invoke/VarHandle" ∧ (parseMethodDescriptor yX2_mouse.desc).map (fun d => d.parameters.length) = some 0 := by decide +kernel
theorem hdV_X2_owl : yX2_owl.cls = RX2 ∧ yX2_owl.cls ≠ "java/lang/invoke/MethodHandle" ∧ yX2_owl.cls ≠ "java/lang/invoke/VarHandle" ∧ (parseMethodDescriptor yX2_owl.desc).map (fun d => d.parameters.length) = some 0 := by decide +kernel
theorem hdV_X2_row : yX2_row.cls = RX2 ∧ yX2_row.cls ≠ "java/lang/invoke/MethodHandle" ∧ yX2_row.cls ≠ "java/lang/invoke/VarHandle" ∧ (parseMethodDescriptor yX2_row.desc).map (fun d => d.parameters.length) = some 2 := by decide +kernel
theorem hdV_X2_strike : yX2_strike.cls = RX2 ∧ yX2_strike.cls ≠ "java/lang/invoke/MethodHandle" ∧ yX2_strike.cls ≠ "java/lang/invoke/VarHandle" ∧ (parseMethodDescriptor yX2_strike.desc).map (fun d => d.parameters.length) = some 1 := by decide +kernel
def c_item (tp : Row) (L a b : Nat) (t v : Int32) (to : Row) : RS × Bool × Row :=
  if t = 2 ∧ ¬ 10 < v then (if v = 7 then c_mouse tp L a t v to else if v = 8 then c_owl tp L a t v to else if v = 9 then c_row tp L 20 30 a t v to else if v = 10 then c_row tp L 56 99 a t v to else c_strike tp L v a b t v to) else ((a, b, t, v), false, to)
set_option maxRecDepth 100000 in
theorem m_X2_item_T {l : Launch} {G : Gc} {d kp as un to sc fd tp sh : Row} {sp : Nat → Option Nat} {L a b : Nat} {t v : Int32} (hL : L ≤ 120) (ha : a ≤ L) {a1 b1 : Nat} {t1 v1 : Int32} {to1 : Row} (h0 : ¬ to 1 < 0) (hq : c_item tp L a b t v to = ((a1, b1, t1, v1), true, to1)) : Cm l yX2_item (ws_ yX2_item cX2_item 1 none) ({ frames := 10, cells := 0, slots := 0, locals := 219 }) (cF G) [.ref (G.ad 5 2)] (cct G (pg d kp as un to (rd sc L a b t v) fd tp sh) sp) (fun _ : Unit => none) (fun _ => cct G (pg d kp as un to1 (rd sc L a1 b1 t1 v1) fd tp sh) sp) := by
  refine Cm.start (by decide) (Nat.le_of_ble_eq_true rfl) ?_
  intro p e s m below meth c hf hX hC ls hl
  obtain ⟨hx, hb, hr, hml, hown, hts, hlocks⟩ := hf
  have hl : lv_has ls 1 [(0, .ref (G.ad 5 2))] := hl
  have hown : s.vm.findClass "OwlEars$Reader" = some m.cls := hown
  refine lv_aload_n hx hb dX2_item_0 rfl (lv_at hl 0 rfl) ?_
  refine lv_aload_n hx hb dX2_item_1 rfl (lv_at hl 0 rfl) ?_
  refine fg_get (C := RX2) (T := TX2) (N := 8) (ci := 3) (g := 5) (i := 2) (v := .int t) hx hb hown hts hX hC in_X2 rfl (cin rfl) rfl 6 (by decide) q295 (fun _ h => h) rfl dX2_item_2 ?_
  refine lv_iconst (v := 2) hx hb dX2_item_5 rfl ?_
  refine lv_icmp_ne (tgt := 22) hx hb dX2_item_6 (by decide) (fun c_1 => ?_) (fun c_1 => ?_)
  · refine lv_iconst (v := 0) hx hb dX2_item_22 rfl ?_
    rw [c_item, if_neg (fun z => c_1 z.1)] at hq
    exact absurd (show false = true from congrArg (fun z => z.2.1) hq) (by decide)
  · refine lv_aload_n hx hb dX2_item_9 rfl (lv_at hl 0 rfl) ?_
    refine fg_get (C := RX2) (T := TX2) (N := 8) (ci := 3) (g := 5) (i := 2) (v := .int v) hx hb hown hts hX hC in_X2 rfl (cin rfl) rfl 7 (by decide) q296 (fun _ h => h) rfl dX2_item_10 ?_
    refine lv_bipush (v := 10) hx hb dX2_item_13 rfl ?_
    refine lv_icmp_gt (tgt := 22) hx hb dX2_item_15 (by decide) (fun c_2 => ?_) (fun c_2 => ?_)
    · refine lv_iconst (v := 0) hx hb dX2_item_22 rfl ?_
      rw [c_item, if_neg (fun z => z.2 c_2)] at hq
      exact absurd (show false = true from congrArg (fun z => z.2.1) hq) (by decide)
    · refine lv_iconst (v := 1) hx hb dX2_item_18 rfl ?_
      refine lv_goto (tgt := 23) hx hb dX2_item_19 (by decide) ?_
      rw [c_item, if_pos ⟨c_1, c_2⟩] at hq
      refine fc_V (As := [.int 1]) (rest := []) hx hb hml hown hts hX hC (m_X2_need_1) (lw_V q1132 q1134 qs40 q113 q1135) hdV_X2_need ⟨rfl, rfl⟩ ⟨Nat.le_of_ble_eq_true rfl, Nat.le_of_ble_eq_true rfl⟩ (fx_recv (g := 5) (i := 2) (ci := 3) (q := (RX2, TX2, 8)) hX hC (cin rfl) rfl rfl) hl.1 rfl (Nat.le_of_ble_eq_true rfl) ⟨Nat.zero_le _, Nat.zero_le _⟩ dX2_item_23 (fun _ H locs hC => ?_)
      refine W.eq (g2 := F0 m 26 ls []) rfl ?_
      refine lv_aload_n hx hb dX2_item_26 rfl (lv_at hl 0 rfl) ?_
      refine fg_get (C := RX2) (T := TX2) (N := 8) (ci := 3) (g := 5) (i := 2) (v := .int v) hx hb hown hts hX hC in_X2 rfl (cin rfl) rfl 7 (by decide) q296 (fun _ h => h) rfl dX2_item_27 ?_
      by_cases c_4 : v = 7
      · refine lv_tableIn (off := 30) (tgt := 60) hx hb dX2_item_30 (by rw [c_4]; decide) (by rw [c_4]; decide) (by rw [c_4]; rfl) (by decide) ?_
        have hm : c_mouse tp L a t v to = ((a1, b1, t1, v1), true, to1) := by rw [if_pos c_4] at hq; exact hq
        refine lv_aload_n hx hb dX2_item_60 rfl (lv_at hl 0 rfl) ?_
        refine fc_V (As := []) (rest := []) hx hb hml hown hts hX hC (m_X2_mouse_T (sc := sc) (L := L) (a := a) (b := b) (t := t) (v := v) hL ha hm) (lw_V q1147 q1149 qs43 q113 q1150) hdV_X2_mouse ⟨rfl, rfl⟩ ⟨Nat.le_of_ble_eq_true rfl, Nat.le_of_ble_eq_true rfl⟩ (fx_recv (g := 5) (i := 2) (ci := 3) (q := (RX2, TX2, 8)) hX hC (cin rfl) rfl rfl) hl.1 rfl (Nat.le_of_ble_eq_true rfl) ⟨Nat.zero_le _, Nat.zero_le _⟩ dX2_item_61 (fun _ H locs hC => ?_)
        refine W.eq (g2 := F0 m 64 ls []) rfl ?_
        refine lv_goto (tgt := 114) hx hb dX2_item_64 (by decide) ?_
        exact fr_v hx hb hr hlocks hX hC () rfl rfl dX2_item_114
      by_cases c_6 : v = 8
      · refine lv_tableIn (off := 37) (tgt := 67) hx hb dX2_item_30 (by rw [c_6]; decide) (by rw [c_6]; decide) (by rw [c_6]; rfl) (by decide) ?_
        have hm : c_owl tp L a t v to = ((a1, b1, t1, v1), true, to1) := by rw [if_neg c_4, if_pos c_6] at hq; exact hq
        refine lv_aload_n hx hb dX2_item_67 rfl (lv_at hl 0 rfl) ?_
        refine fc_V (As := []) (rest := []) hx hb hml hown hts hX hC (m_X2_owl_T (sc := sc) (L := L) (a := a) (b := b) (t := t) (v := v) hL ha hm) (lw_V q1167 q1169 qs48 q113 q1170) hdV_X2_owl ⟨rfl, rfl⟩ ⟨Nat.le_of_ble_eq_true rfl, Nat.le_of_ble_eq_true rfl⟩ (fx_recv (g := 5) (i := 2) (ci := 3) (q := (RX2, TX2, 8)) hX hC (cin rfl) rfl rfl) hl.1 rfl (Nat.le_of_ble_eq_true rfl) ⟨Nat.zero_le _, Nat.zero_le _⟩ dX2_item_68 (fun _ H locs hC => ?_)
        refine W.eq (g2 := F0 m 71 ls []) rfl ?_
        refine lv_goto (tgt := 114) hx hb dX2_item_71 (by decide) ?_
        exact fr_v hx hb hr hlocks hX hC () rfl rfl dX2_item_114
      by_cases c_8 : v = 9
      · refine lv_tableIn (off := 44) (tgt := 74) hx hb dX2_item_30 (by rw [c_8]; decide) (by rw [c_8]; decide) (by rw [c_8]; rfl) (by decide) ?_
        have hm : c_row tp L 20 30 a t v to = ((a1, b1, t1, v1), true, to1) := by rw [if_neg c_4, if_neg c_6, if_pos c_8] at hq; exact hq
        refine lv_aload_n hx hb dX2_item_74 rfl (lv_at hl 0 rfl) ?_
        refine lv_aload_n hx hb dX2_item_75 rfl (lv_at hl 0 rfl) ?_
        refine fg_get (C := RX2) (T := TX2) (N := 8) (ci := 3) (g := 5) (i := 2) (v := .ref (G.ad 4 0)) hx hb hown hts hX hC in_X2 rfl (cin rfl) rfl 2 (by decide) q288 (fun _ h => h) rfl dX2_item_76 ?_
        refine fg_getN (C := RX4) (T := TX4) (N := 9) (ci := 0) (g := 4) (i := 0) (v := .ref (G.ad 4 1)) hx hb hown hts hX hC in_X4 rfl (cin rfl) rfl 0 (by decide) (hX.2.2.1.F q239) (fun _ h => h) rfl dX2_item_79 ?_
        refine lv_bipush (v := 30) hx hb dX2_item_82 rfl ?_
        refine fc_V (As := [.ref (G.ad 4 1), .int 30]) (rest := []) hx hb hml hown hts hX hC (m_X2_row_1T (sc := sc) (L := L) (a := a) (b := b) (t := t) (v := v) hL ha 30 hm) (lw_V q1171 q1173 qs49 q113 q1174) hdV_X2_row ⟨rfl, rfl⟩ ⟨Nat.le_of_ble_eq_true rfl, Nat.le_of_ble_eq_true rfl⟩ (fx_recv (g := 5) (i := 2) (ci := 3) (q := (RX2, TX2, 8)) hX hC (cin rfl) rfl rfl) hl.1 rfl (Nat.le_of_ble_eq_true rfl) ⟨Nat.zero_le _, Nat.zero_le _⟩ dX2_item_84 (fun _ H locs hC => ?_)
        refine W.eq (g2 := F0 m 87 ls []) rfl ?_
        refine lv_goto (tgt := 114) hx hb dX2_item_87 (by decide) ?_
        exact fr_v hx hb hr hlocks hX hC () rfl rfl dX2_item_114
      by_cases c_10 : v = 10
      · refine lv_tableIn (off := 60) (tgt := 90) hx hb dX2_item_30 (by rw [c_10]; decide) (by rw [c_10]; decide) (by rw [c_10]; rfl) (by decide) ?_
        have hm : c_row tp L 56 99 a t v to = ((a1, b1, t1, v1), true, to1) := by rw [if_neg c_4, if_neg c_6, if_neg c_8, if_pos c_10] at hq; exact hq
        refine lv_aload_n hx hb dX2_item_90 rfl (lv_at hl 0 rfl) ?_
        refine lv_aload_n hx hb dX2_item_91 rfl (lv_at hl 0 rfl) ?_
        refine fg_get (C := RX2) (T := TX2) (N := 8) (ci := 3) (g := 5) (i := 2) (v := .ref (G.ad 4 0)) hx hb hown hts hX hC in_X2 rfl (cin rfl) rfl 2 (by decide) q288 (fun _ h => h) rfl dX2_item_92 ?_
        refine fg_getN (C := RX4) (T := TX4) (N := 9) (ci := 0) (g := 4) (i := 0) (v := .ref (G.ad 4 2)) hx hb hown hts hX hC in_X4 rfl (cin rfl) rfl 1 (by decide) (hX.2.2.1.F q242) (fun _ h => h) rfl dX2_item_95 ?_
        refine lv_bipush (v := 99) hx hb dX2_item_98 rfl ?_
        refine fc_V (As := [.ref (G.ad 4 2), .int 99]) (rest := []) hx hb hml hown hts hX hC (m_X2_row_2T (sc := sc) (L := L) (a := a) (b := b) (t := t) (v := v) hL ha 99 hm) (lw_V q1171 q1173 qs49 q113 q1174) hdV_X2_row ⟨rfl, rfl⟩ ⟨Nat.le_of_ble_eq_true rfl, Nat.le_of_ble_eq_true rfl⟩ (fx_recv (g := 5) (i := 2) (ci := 3) (q := (RX2, TX2, 8)) hX hC (cin rfl) rfl rfl) hl.1 rfl (Nat.le_of_ble_eq_true rfl) ⟨Nat.zero_le _, Nat.zero_le _⟩ dX2_item_100 (fun _ H locs hC => ?_)
        refine W.eq (g2 := F0 m 103 ls []) rfl ?_
        refine lv_goto (tgt := 114) hx hb dX2_item_103 (by decide) ?_
        exact fr_v hx hb hr hlocks hX hC () rfl rfl dX2_item_114
      refine lv_tableOut (tgt := 106) hx hb dX2_item_30 (tabo 7 4 (by decide) (fun k hk => match k, hk with | 0, _ => c_4 | 1, _ => c_6 | 2, _ => c_8 | 3, _ => c_10) rfl) (by decide) ?_
      have hm : c_strike tp L v a b t v to = ((a1, b1, t1, v1), true, to1) := by rw [if_neg c_4, if_neg c_6, if_neg c_8, if_neg c_10] at hq; exact hq
      refine lv_aload_n hx hb dX2_item_106 rfl (lv_at hl 0 rfl) ?_
      refine lv_aload_n hx hb dX2_item_107 rfl (lv_at hl 0 rfl) ?_
      refine fg_get (C := RX2) (T := TX2) (N := 8) (ci := 3) (g := 5) (i := 2) (v := .int v) hx hb hown hts hX hC in_X2 rfl (cin rfl) rfl 7 (by decide) q296 (fun _ h => h) rfl dX2_item_108 ?_
      refine fc_V (As := [.int v]) (rest := []) hx hb hml hown hts hX hC (m_X2_strike_T (sc := sc) (L := L) (a := a) (b := b) (t := t) (v := v) hL ha v h0 hm) (lw_V q1175 q1177 qs50 q113 q1178) hdV_X2_strike ⟨rfl, rfl⟩ ⟨Nat.le_of_ble_eq_true rfl, Nat.le_of_ble_eq_true rfl⟩ (fx_recv (g := 5) (i := 2) (ci := 3) (q := (RX2, TX2, 8)) hX hC (cin rfl) rfl rfl) hl.1 rfl (Nat.le_of_ble_eq_true rfl) ⟨Nat.zero_le _, Nat.zero_le _⟩ dX2_item_111 (fun _ H locs hC => ?_)
      refine W.eq (g2 := F0 m 114 ls []) rfl ?_
      exact fr_v hx hb hr hlocks hX hC () rfl rfl dX2_item_114
set_option maxRecDepth 100000 in
theorem m_X2_item_F {l : Launch} {G : Gc} {d kp as un to sc fd tp sh : Row} {sp : Nat → Option Nat} {L a b : Nat} {t v : Int32} (hL : L ≤ 120) (ha : a ≤ L) {a1 b1 : Nat} {t1 v1 : Int32} {to1 : Row} (h0 : ¬ to 1 < 0) (hq : c_item tp L a b t v to = ((a1, b1, t1, v1), false, to1)) : CmX l yX2_item (ws_ yX2_item cX2_item 1 none) ({ frames := 10, cells := 0, slots := 0, locals := 219 }) (cF G) [.ref (G.ad 5 2)] (cct G (pg d kp as un to (rd sc L a b t v) fd tp sh) sp) (fun _ : Unit => .threw (G.ad 5 3)) (fun _ => cct G (pg d kp as un to1 (rd sc L a1 b1 t1 v1) fd tp sh) sp) := by
  refine CmX.start (by decide) (Nat.le_of_ble_eq_true rfl) ?_
  intro p e s m below meth c hf hE hX hC ls hl
  obtain ⟨hx, hb, hr, hml, hown, hts, hlocks⟩ := hf
  have hl : lv_has ls 1 [(0, .ref (G.ad 5 2))] := hl
  have hown : s.vm.findClass "OwlEars$Reader" = some m.cls := hown
  refine lv_aload_n hx hb dX2_item_0 rfl (lv_at hl 0 rfl) ?_
  refine lv_aload_n hx hb dX2_item_1 rfl (lv_at hl 0 rfl) ?_
  refine fg_get (C := RX2) (T := TX2) (N := 8) (ci := 3) (g := 5) (i := 2) (v := .int t) hx hb hown hts hX hC in_X2 rfl (cin rfl) rfl 6 (by decide) q295 (fun _ h => h) rfl dX2_item_2 ?_
  refine lv_iconst (v := 2) hx hb dX2_item_5 rfl ?_
  refine lv_icmp_ne (tgt := 22) hx hb dX2_item_6 (by decide) (fun c_1 => ?_) (fun c_1 => ?_)
  · refine lv_iconst (v := 0) hx hb dX2_item_22 rfl ?_
    rw [c_item, if_neg (fun z => c_1 z.1)] at hq
    have h1 : a = a1 := congrArg (fun z => z.1.1) hq
    have h2 : b = b1 := congrArg (fun z => z.1.2.1) hq
    have h3 : t = t1 := congrArg (fun z => z.1.2.2.1) hq
    have h4 : v = v1 := congrArg (fun z => z.1.2.2.2) hq
    have h5 : to = to1 := congrArg (fun z => z.2.2) hq
    refine fc_VT (As := [.int 0]) (rest := []) hx hb hml hown hts hX hC (m_X2_need_0) (lw_V q1132 q1134 qs40 q113 q1135) hdV_X2_need ⟨rfl, rfl⟩ ⟨Nat.le_of_ble_eq_true rfl, Nat.le_of_ble_eq_true rfl⟩ (fx_recv (g := 5) (i := 2) (ci := 3) (q := (RX2, TX2, 8)) hX hC (cin rfl) rfl rfl) hl.1 rfl (Nat.le_of_ble_eq_true rfl) ⟨Nat.zero_le _, Nat.zero_le _⟩ dX2_item_23 (fun _ H locs hC => ?_)
    exact fx_out hlocks hX hC hE rfl () rfl (by rw [h1, h2, h3, h4, h5])
  · refine lv_aload_n hx hb dX2_item_9 rfl (lv_at hl 0 rfl) ?_
    refine fg_get (C := RX2) (T := TX2) (N := 8) (ci := 3) (g := 5) (i := 2) (v := .int v) hx hb hown hts hX hC in_X2 rfl (cin rfl) rfl 7 (by decide) q296 (fun _ h => h) rfl dX2_item_10 ?_
    refine lv_bipush (v := 10) hx hb dX2_item_13 rfl ?_
    refine lv_icmp_gt (tgt := 22) hx hb dX2_item_15 (by decide) (fun c_3 => ?_) (fun c_3 => ?_)
    · refine lv_iconst (v := 0) hx hb dX2_item_22 rfl ?_
      rw [c_item, if_neg (fun z => z.2 c_3)] at hq
      have h1 : a = a1 := congrArg (fun z => z.1.1) hq
      have h2 : b = b1 := congrArg (fun z => z.1.2.1) hq
      have h3 : t = t1 := congrArg (fun z => z.1.2.2.1) hq
      have h4 : v = v1 := congrArg (fun z => z.1.2.2.2) hq
      have h5 : to = to1 := congrArg (fun z => z.2.2) hq
      refine fc_VT (As := [.int 0]) (rest := []) hx hb hml hown hts hX hC (m_X2_need_0) (lw_V q1132 q1134 qs40 q113 q1135) hdV_X2_need ⟨rfl, rfl⟩ ⟨Nat.le_of_ble_eq_true rfl, Nat.le_of_ble_eq_true rfl⟩ (fx_recv (g := 5) (i := 2) (ci := 3) (q := (RX2, TX2, 8)) hX hC (cin rfl) rfl rfl) hl.1 rfl (Nat.le_of_ble_eq_true rfl) ⟨Nat.zero_le _, Nat.zero_le _⟩ dX2_item_23 (fun _ H locs hC => ?_)
      exact fx_out hlocks hX hC hE rfl () rfl (by rw [h1, h2, h3, h4, h5])
    · refine lv_iconst (v := 1) hx hb dX2_item_18 rfl ?_
      refine lv_goto (tgt := 23) hx hb dX2_item_19 (by decide) ?_
      rw [c_item, if_pos ⟨c_1, c_3⟩] at hq
      refine fc_V (As := [.int 1]) (rest := []) hx hb hml hown hts hX hC (m_X2_need_1) (lw_V q1132 q1134 qs40 q113 q1135) hdV_X2_need ⟨rfl, rfl⟩ ⟨Nat.le_of_ble_eq_true rfl, Nat.le_of_ble_eq_true rfl⟩ (fx_recv (g := 5) (i := 2) (ci := 3) (q := (RX2, TX2, 8)) hX hC (cin rfl) rfl rfl) hl.1 rfl (Nat.le_of_ble_eq_true rfl) ⟨Nat.zero_le _, Nat.zero_le _⟩ dX2_item_23 (fun _ H locs hC => ?_)
      refine W.eq (g2 := F0 m 26 ls []) rfl ?_
      refine lv_aload_n hx hb dX2_item_26 rfl (lv_at hl 0 rfl) ?_
      refine fg_get (C := RX2) (T := TX2) (N := 8) (ci := 3) (g := 5) (i := 2) (v := .int v) hx hb hown hts hX hC in_X2 rfl (cin rfl) rfl 7 (by decide) q296 (fun _ h => h) rfl dX2_item_27 ?_
      by_cases c_6 : v = 7
      · refine lv_tableIn (off := 30) (tgt := 60) hx hb dX2_item_30 (by rw [c_6]; decide) (by rw [c_6]; decide) (by rw [c_6]; rfl) (by decide) ?_
        have hm : c_mouse tp L a t v to = ((a1, b1, t1, v1), false, to1) := by rw [if_pos c_6] at hq; exact hq
        refine lv_aload_n hx hb dX2_item_60 rfl (lv_at hl 0 rfl) ?_
        refine fc_VT (As := []) (rest := []) hx hb hml hown hts hX hC (m_X2_mouse_F (sc := sc) (L := L) (a := a) (b := b) (t := t) (v := v) hL ha hm) (lw_V q1147 q1149 qs43 q113 q1150) hdV_X2_mouse ⟨rfl, rfl⟩ ⟨Nat.le_of_ble_eq_true rfl, Nat.le_of_ble_eq_true rfl⟩ (fx_recv (g := 5) (i := 2) (ci := 3) (q := (RX2, TX2, 8)) hX hC (cin rfl) rfl rfl) hl.1 rfl (Nat.le_of_ble_eq_true rfl) ⟨Nat.zero_le _, Nat.zero_le _⟩ dX2_item_61 (fun _ H locs hC => ?_)
        exact fx_out hlocks hX hC hE rfl () rfl rfl
      by_cases c_8 : v = 8
      · refine lv_tableIn (off := 37) (tgt := 67) hx hb dX2_item_30 (by rw [c_8]; decide) (by rw [c_8]; decide) (by rw [c_8]; rfl) (by decide) ?_
        have hm : c_owl tp L a t v to = ((a1, b1, t1, v1), false, to1) := by rw [if_neg c_6, if_pos c_8] at hq; exact hq
        refine lv_aload_n hx hb dX2_item_67 rfl (lv_at hl 0 rfl) ?_
        refine fc_VT (As := []) (rest := []) hx hb hml hown hts hX hC (m_X2_owl_F (sc := sc) (L := L) (a := a) (b := b) (t := t) (v := v) hL ha hm) (lw_V q1167 q1169 qs48 q113 q1170) hdV_X2_owl ⟨rfl, rfl⟩ ⟨Nat.le_of_ble_eq_true rfl, Nat.le_of_ble_eq_true rfl⟩ (fx_recv (g := 5) (i := 2) (ci := 3) (q := (RX2, TX2, 8)) hX hC (cin rfl) rfl rfl) hl.1 rfl (Nat.le_of_ble_eq_true rfl) ⟨Nat.zero_le _, Nat.zero_le _⟩ dX2_item_68 (fun _ H locs hC => ?_)
        exact fx_out hlocks hX hC hE rfl () rfl rfl
      by_cases c_10 : v = 9
      · refine lv_tableIn (off := 44) (tgt := 74) hx hb dX2_item_30 (by rw [c_10]; decide) (by rw [c_10]; decide) (by rw [c_10]; rfl) (by decide) ?_
        have hm : c_row tp L 20 30 a t v to = ((a1, b1, t1, v1), false, to1) := by rw [if_neg c_6, if_neg c_8, if_pos c_10] at hq; exact hq
        refine lv_aload_n hx hb dX2_item_74 rfl (lv_at hl 0 rfl) ?_
        refine lv_aload_n hx hb dX2_item_75 rfl (lv_at hl 0 rfl) ?_
        refine fg_get (C := RX2) (T := TX2) (N := 8) (ci := 3) (g := 5) (i := 2) (v := .ref (G.ad 4 0)) hx hb hown hts hX hC in_X2 rfl (cin rfl) rfl 2 (by decide) q288 (fun _ h => h) rfl dX2_item_76 ?_
        refine fg_getN (C := RX4) (T := TX4) (N := 9) (ci := 0) (g := 4) (i := 0) (v := .ref (G.ad 4 1)) hx hb hown hts hX hC in_X4 rfl (cin rfl) rfl 0 (by decide) (hX.2.2.1.F q239) (fun _ h => h) rfl dX2_item_79 ?_
        refine lv_bipush (v := 30) hx hb dX2_item_82 rfl ?_
        refine fc_VT (As := [.ref (G.ad 4 1), .int 30]) (rest := []) hx hb hml hown hts hX hC (m_X2_row_1F (sc := sc) (L := L) (a := a) (b := b) (t := t) (v := v) hL ha 30 hm) (lw_V q1171 q1173 qs49 q113 q1174) hdV_X2_row ⟨rfl, rfl⟩ ⟨Nat.le_of_ble_eq_true rfl, Nat.le_of_ble_eq_true rfl⟩ (fx_recv (g := 5) (i := 2) (ci := 3) (q := (RX2, TX2, 8)) hX hC (cin rfl) rfl rfl) hl.1 rfl (Nat.le_of_ble_eq_true rfl) ⟨Nat.zero_le _, Nat.zero_le _⟩ dX2_item_84 (fun _ H locs hC => ?_)
        exact fx_out hlocks hX hC hE rfl () rfl rfl
      by_cases c_12 : v = 10
      · refine lv_tableIn (off := 60) (tgt := 90) hx hb dX2_item_30 (by rw [c_12]; decide) (by rw [c_12]; decide) (by rw [c_12]; rfl) (by decide) ?_
        have hm : c_row tp L 56 99 a t v to = ((a1, b1, t1, v1), false, to1) := by rw [if_neg c_6, if_neg c_8, if_neg c_10, if_pos c_12] at hq; exact hq
        refine lv_aload_n hx hb dX2_item_90 rfl (lv_at hl 0 rfl) ?_
        refine lv_aload_n hx hb dX2_item_91 rfl (lv_at hl 0 rfl) ?_
        refine fg_get (C := RX2) (T := TX2) (N := 8) (ci := 3) (g := 5) (i := 2) (v := .ref (G.ad 4 0)) hx hb hown hts hX hC in_X2 rfl (cin rfl) rfl 2 (by decide) q288 (fun _ h => h) rfl dX2_item_92 ?_
        refine fg_getN (C := RX4) (T := TX4) (N := 9) (ci := 0) (g := 4) (i := 0) (v := .ref (G.ad 4 2)) hx hb hown hts hX hC in_X4 rfl (cin rfl) rfl 1 (by decide) (hX.2.2.1.F q242) (fun _ h => h) rfl dX2_item_95 ?_
        refine lv_bipush (v := 99) hx hb dX2_item_98 rfl ?_
        refine fc_VT (As := [.ref (G.ad 4 2), .int 99]) (rest := []) hx hb hml hown hts hX hC (m_X2_row_2F (sc := sc) (L := L) (a := a) (b := b) (t := t) (v := v) hL ha 99 hm) (lw_V q1171 q1173 qs49 q113 q1174) hdV_X2_row ⟨rfl, rfl⟩ ⟨Nat.le_of_ble_eq_true rfl, Nat.le_of_ble_eq_true rfl⟩ (fx_recv (g := 5) (i := 2) (ci := 3) (q := (RX2, TX2, 8)) hX hC (cin rfl) rfl rfl) hl.1 rfl (Nat.le_of_ble_eq_true rfl) ⟨Nat.zero_le _, Nat.zero_le _⟩ dX2_item_100 (fun _ H locs hC => ?_)
        exact fx_out hlocks hX hC hE rfl () rfl rfl
      refine lv_tableOut (tgt := 106) hx hb dX2_item_30 (tabo 7 4 (by decide) (fun k hk => match k, hk with | 0, _ => c_6 | 1, _ => c_8 | 2, _ => c_10 | 3, _ => c_12) rfl) (by decide) ?_
      have hm : c_strike tp L v a b t v to = ((a1, b1, t1, v1), false, to1) := by rw [if_neg c_6, if_neg c_8, if_neg c_10, if_neg c_12] at hq; exact hq
      refine lv_aload_n hx hb dX2_item_106 rfl (lv_at hl 0 rfl) ?_
      refine lv_aload_n hx hb dX2_item_107 rfl (lv_at hl 0 rfl) ?_
      refine fg_get (C := RX2) (T := TX2) (N := 8) (ci := 3) (g := 5) (i := 2) (v := .int v) hx hb hown hts hX hC in_X2 rfl (cin rfl) rfl 7 (by decide) q296 (fun _ h => h) rfl dX2_item_108 ?_
      refine fc_VT (As := [.int v]) (rest := []) hx hb hml hown hts hX hC (m_X2_strike_F (sc := sc) (L := L) (a := a) (b := b) (t := t) (v := v) hL ha v h0 hm) (lw_V q1175 q1177 qs50 q113 q1178) hdV_X2_strike ⟨rfl, rfl⟩ ⟨Nat.le_of_ble_eq_true rfl, Nat.le_of_ble_eq_true rfl⟩ (fx_recv (g := 5) (i := 2) (ci := 3) (q := (RX2, TX2, 8)) hX hC (cin rfl) rfl rfl) hl.1 rfl (Nat.le_of_ble_eq_true rfl) ⟨Nat.zero_le _, Nat.zero_le _⟩ dX2_item_111 (fun _ H locs hC => ?_)
      exact fx_out hlocks hX hC hE rfl () rfl rfl
