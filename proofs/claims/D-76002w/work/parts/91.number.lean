theorem hdV_X2_next : yX2_next.cls = RX2 ∧ yX2_next.cls ≠ "java/lang/invoke/MethodHandle" ∧ yX2_next.cls ≠ "java/lang/invoke/VarHandle" ∧ (parseMethodDescriptor yX2_next.desc).map (fun d => d.parameters.length) = some 0 := by decide +kernel
def c_num (tp : Row) (L : Nat) (lo hi : Int32) (a b : Nat) (t v : Int32) : (Nat × Nat × Int32 × Int32) × Bool := if t = 1 ∧ p_in v lo hi then c_next tp L a t v else ((a, b, t, v), false)
theorem num_L {tp : Row} {L a b a' b' : Nat} {lo hi t v t' v' : Int32} {ok : Bool} (h : a ≤ L) (hb : b ≤ L) (hq : c_num tp L lo hi a b t v = ((a', b', t', v'), ok)) : a' ≤ L ∧ b' ≤ L := by
  unfold c_num at hq
  split at hq
  · exact next_L h hq
  · have h1 : a = a' := congrArg (fun z => z.1.1) hq
    have h2 : b = b' := congrArg (fun z => z.1.2.1) hq
    omega
set_option maxRecDepth 100000 in
theorem m_X2_number_T {l : Launch} {G : Gc} {d kp as un to sc fd tp sh : Row} {sp : Nat → Option Nat} {L a b : Nat} {t v : Int32} (hL : L ≤ 120) (ha : a ≤ L) {a1 b1 : Nat} {t1 v1 : Int32} (lo hi : Int32) (hq : c_num tp L lo hi a b t v = ((a1, b1, t1, v1), true)) : Cm l yX2_number (ws_ yX2_number cX2_number 4 (some .int)) ({ frames := 7, cells := 0, slots := 0, locals := 151 }) (cF G) [.ref (G.ad 5 2), .int lo, .int hi] (cct G (pg d kp as un to (rd sc L a b t v) fd tp sh) sp) (fun _ : Unit => some (.int v)) (fun _ => cct G (pg d kp as un to (rd sc L a1 b1 t1 v1) fd tp sh) sp) := by
  refine Cm.start (by decide) (Nat.le_of_ble_eq_true rfl) ?_
  intro p e s m below meth c hf hX hC ls hl
  obtain ⟨hx, hb, hr, hml, hown, hts, hlocks⟩ := hf
  have hl : lv_has ls 4 [(0, .ref (G.ad 5 2)), (1, .int lo), (2, .int hi)] := hl
  have hown : s.vm.findClass "OwlEars$Reader" = some m.cls := hown
  refine lv_aload_n hx hb dX2_number_0 rfl (lv_at hl 0 rfl) ?_
  refine lv_aload_n hx hb dX2_number_1 rfl (lv_at hl 0 rfl) ?_
  refine fg_get (C := RX2) (T := TX2) (N := 8) (ci := 3) (g := 5) (i := 2) (v := .int t) hx hb hown hts hX hC in_X2 rfl (cin rfl) rfl 6 (by decide) q295 (fun _ h => h) rfl dX2_number_2 ?_
  refine lv_iconst (v := 1) hx hb dX2_number_5 rfl ?_
  refine lv_icmp_ne (tgt := 25) hx hb dX2_number_6 (by decide) (fun c_1 => ?_) (fun c_1 => ?_)
  · refine lv_iconst (v := 0) hx hb dX2_number_25 rfl ?_
    rw [c_num, if_neg (fun z => c_1 z.1)] at hq
    exact absurd (show false = true from congrArg (fun z => z.2) hq) (by decide)
  · refine lv_aload_n hx hb dX2_number_9 rfl (lv_at hl 0 rfl) ?_
    refine fg_get (C := RX2) (T := TX2) (N := 8) (ci := 3) (g := 5) (i := 2) (v := .int v) hx hb hown hts hX hC in_X2 rfl (cin rfl) rfl 7 (by decide) q296 (fun _ h => h) rfl dX2_number_10 ?_
    refine lv_iload_n hx hb dX2_number_13 rfl (lv_at hl 1 rfl) ?_
    refine lv_iload_n hx hb dX2_number_14 rfl (lv_at hl 2 rfl) ?_
    refine fc_SN (As := [.int v, .int lo, .int hi]) (rest := [.ref (G.ad 5 2)]) hx hb hml hown hts hX hC (m_X0_in v lo hi) (hX.2.2.1.M q1082) q470 q108 q471 hdS_X0_in ⟨rfl, rfl⟩ ⟨Nat.le_of_ble_eq_true rfl, Nat.le_of_ble_eq_true rfl⟩ hl.1 rfl (Nat.le_of_ble_eq_true rfl) ⟨Nat.zero_le _, Nat.zero_le _⟩ dX2_number_15 (fun _ H locs hC => ?_)
    refine W.eq (g2 := F0 m 18 ls [.int (b2i (p_in v lo hi)), .ref (G.ad 5 2)]) rfl ?_
    refine fb_eq (tgt := 25) hx hb dX2_number_18 (by decide) (fun c_3 => ?_) (fun c_3 => ?_)
    · refine lv_iconst (v := 0) hx hb dX2_number_25 rfl ?_
      rw [c_num, if_neg (fun z => c_3 z.2)] at hq
      exact absurd (show false = true from congrArg (fun z => z.2) hq) (by decide)
    · refine lv_iconst (v := 1) hx hb dX2_number_21 rfl ?_
      refine lv_goto (tgt := 26) hx hb dX2_number_22 (by decide) ?_
      have hn : c_next tp L a t v = ((a1, b1, t1, v1), true) := by rw [c_num, if_pos ⟨c_1, c_3⟩] at hq; exact hq
      refine fc_V (As := [.int 1]) (rest := []) hx hb hml hown hts hX hC (m_X2_need_1) (lw_V q1132 q1134 qs40 q113 q1135) hdV_X2_need ⟨rfl, rfl⟩ ⟨Nat.le_of_ble_eq_true rfl, Nat.le_of_ble_eq_true rfl⟩ (fx_recv (g := 5) (i := 2) (ci := 3) (q := (RX2, TX2, 8)) hX hC (cin rfl) rfl rfl) hl.1 rfl (Nat.le_of_ble_eq_true rfl) ⟨Nat.zero_le _, Nat.zero_le _⟩ dX2_number_26 (fun _ H locs hC => ?_)
      refine W.eq (g2 := F0 m 29 ls []) rfl ?_
      refine lv_aload_n hx hb dX2_number_29 rfl (lv_at hl 0 rfl) ?_
      refine fg_get (C := RX2) (T := TX2) (N := 8) (ci := 3) (g := 5) (i := 2) (v := .int v) hx hb hown hts hX hC in_X2 rfl (cin rfl) rfl 7 (by decide) q296 (fun _ h => h) rfl dX2_number_30 ?_
      refine lv_istore_n (lv' := [(3, .int v), (0, .ref (G.ad 5 2)), (1, .int lo), (2, .int hi)]) hx hb dX2_number_33 rfl hl (by decide) rfl (fun ls hl => ?_)
      refine lv_aload_n hx hb dX2_number_34 rfl (lv_at hl 1 rfl) ?_
      refine fc_V (As := []) (rest := []) hx hb hml hown hts hX hC (m_X2_next_T (sc := sc) (L := L) (a := a) (b := b) (t := t) (v := v) hL ha hn) (lw_V q1071 q1073 qs36 q113 q1074) hdV_X2_next ⟨rfl, rfl⟩ ⟨Nat.le_of_ble_eq_true rfl, Nat.le_of_ble_eq_true rfl⟩ (fx_recv (g := 5) (i := 2) (ci := 3) (q := (RX2, TX2, 8)) hX hC (cin rfl) rfl rfl) hl.1 rfl (Nat.le_of_ble_eq_true rfl) ⟨Nat.zero_le _, Nat.zero_le _⟩ dX2_number_35 (fun _ H locs hC => ?_)
      refine W.eq (g2 := F0 m 38 ls []) rfl ?_
      refine lv_iload_n hx hb dX2_number_38 rfl (lv_at hl 0 rfl) ?_
      exact fr_i hx hb hr hlocks hX hC () rfl rfl dX2_number_39
set_option maxRecDepth 100000 in
theorem m_X2_number_F {l : Launch} {G : Gc} {d kp as un to sc fd tp sh : Row} {sp : Nat → Option Nat} {L a b : Nat} {t v : Int32} (hL : L ≤ 120) (ha : a ≤ L) {a1 b1 : Nat} {t1 v1 : Int32} (lo hi : Int32) (hq : c_num tp L lo hi a b t v = ((a1, b1, t1, v1), false)) : CmX l yX2_number (ws_ yX2_number cX2_number 4 (some .int)) ({ frames := 7, cells := 0, slots := 0, locals := 151 }) (cF G) [.ref (G.ad 5 2), .int lo, .int hi] (cct G (pg d kp as un to (rd sc L a b t v) fd tp sh) sp) (fun _ : Unit => .threw (G.ad 5 3)) (fun _ => cct G (pg d kp as un to (rd sc L a1 b1 t1 v1) fd tp sh) sp) := by
  refine CmX.start (by decide) (Nat.le_of_ble_eq_true rfl) ?_
  intro p e s m below meth c hf hE hX hC ls hl
  obtain ⟨hx, hb, hr, hml, hown, hts, hlocks⟩ := hf
  have hl : lv_has ls 4 [(0, .ref (G.ad 5 2)), (1, .int lo), (2, .int hi)] := hl
  have hown : s.vm.findClass "OwlEars$Reader" = some m.cls := hown
  refine lv_aload_n hx hb dX2_number_0 rfl (lv_at hl 0 rfl) ?_
  refine lv_aload_n hx hb dX2_number_1 rfl (lv_at hl 0 rfl) ?_
  refine fg_get (C := RX2) (T := TX2) (N := 8) (ci := 3) (g := 5) (i := 2) (v := .int t) hx hb hown hts hX hC in_X2 rfl (cin rfl) rfl 6 (by decide) q295 (fun _ h => h) rfl dX2_number_2 ?_
  refine lv_iconst (v := 1) hx hb dX2_number_5 rfl ?_
  refine lv_icmp_ne (tgt := 25) hx hb dX2_number_6 (by decide) (fun c_1 => ?_) (fun c_1 => ?_)
  · refine lv_iconst (v := 0) hx hb dX2_number_25 rfl ?_
    rw [c_num, if_neg (fun z => c_1 z.1)] at hq
    have h1 : a = a1 := congrArg (fun z => z.1.1) hq
    have h2 : b = b1 := congrArg (fun z => z.1.2.1) hq
    have h3 : t = t1 := congrArg (fun z => z.1.2.2.1) hq
    have h4 : v = v1 := congrArg (fun z => z.1.2.2.2) hq
    refine fc_VT (As := [.int 0]) (rest := []) hx hb hml hown hts hX hC (m_X2_need_0) (lw_V q1132 q1134 qs40 q113 q1135) hdV_X2_need ⟨rfl, rfl⟩ ⟨Nat.le_of_ble_eq_true rfl, Nat.le_of_ble_eq_true rfl⟩ (fx_recv (g := 5) (i := 2) (ci := 3) (q := (RX2, TX2, 8)) hX hC (cin rfl) rfl rfl) hl.1 rfl (Nat.le_of_ble_eq_true rfl) ⟨Nat.zero_le _, Nat.zero_le _⟩ dX2_number_26 (fun _ H locs hC => ?_)
    exact fx_out hlocks hX hC hE rfl () rfl (by rw [h1, h2, h3, h4])
  · refine lv_aload_n hx hb dX2_number_9 rfl (lv_at hl 0 rfl) ?_
    refine fg_get (C := RX2) (T := TX2) (N := 8) (ci := 3) (g := 5) (i := 2) (v := .int v) hx hb hown hts hX hC in_X2 rfl (cin rfl) rfl 7 (by decide) q296 (fun _ h => h) rfl dX2_number_10 ?_
    refine lv_iload_n hx hb dX2_number_13 rfl (lv_at hl 1 rfl) ?_
    refine lv_iload_n hx hb dX2_number_14 rfl (lv_at hl 2 rfl) ?_
    refine fc_SN (As := [.int v, .int lo, .int hi]) (rest := [.ref (G.ad 5 2)]) hx hb hml hown hts hX hC (m_X0_in v lo hi) (hX.2.2.1.M q1082) q470 q108 q471 hdS_X0_in ⟨rfl, rfl⟩ ⟨Nat.le_of_ble_eq_true rfl, Nat.le_of_ble_eq_true rfl⟩ hl.1 rfl (Nat.le_of_ble_eq_true rfl) ⟨Nat.zero_le _, Nat.zero_le _⟩ dX2_number_15 (fun _ H locs hC => ?_)
    refine W.eq (g2 := F0 m 18 ls [.int (b2i (p_in v lo hi)), .ref (G.ad 5 2)]) rfl ?_
    refine fb_eq (tgt := 25) hx hb dX2_number_18 (by decide) (fun c_4 => ?_) (fun c_4 => ?_)
    · refine lv_iconst (v := 0) hx hb dX2_number_25 rfl ?_
      rw [c_num, if_neg (fun z => c_4 z.2)] at hq
      have h1 : a = a1 := congrArg (fun z => z.1.1) hq
      have h2 : b = b1 := congrArg (fun z => z.1.2.1) hq
      have h3 : t = t1 := congrArg (fun z => z.1.2.2.1) hq
      have h4 : v = v1 := congrArg (fun z => z.1.2.2.2) hq
      refine fc_VT (As := [.int 0]) (rest := []) hx hb hml hown hts hX hC (m_X2_need_0) (lw_V q1132 q1134 qs40 q113 q1135) hdV_X2_need ⟨rfl, rfl⟩ ⟨Nat.le_of_ble_eq_true rfl, Nat.le_of_ble_eq_true rfl⟩ (fx_recv (g := 5) (i := 2) (ci := 3) (q := (RX2, TX2, 8)) hX hC (cin rfl) rfl rfl) hl.1 rfl (Nat.le_of_ble_eq_true rfl) ⟨Nat.zero_le _, Nat.zero_le _⟩ dX2_number_26 (fun _ H locs hC => ?_)
      exact fx_out hlocks hX hC hE rfl () rfl (by rw [h1, h2, h3, h4])
    · refine lv_iconst (v := 1) hx hb dX2_number_21 rfl ?_
      refine lv_goto (tgt := 26) hx hb dX2_number_22 (by decide) ?_
      have hn : c_next tp L a t v = ((a1, b1, t1, v1), false) := by rw [c_num, if_pos ⟨c_1, c_4⟩] at hq; exact hq
      refine fc_V (As := [.int 1]) (rest := []) hx hb hml hown hts hX hC (m_X2_need_1) (lw_V q1132 q1134 qs40 q113 q1135) hdV_X2_need ⟨rfl, rfl⟩ ⟨Nat.le_of_ble_eq_true rfl, Nat.le_of_ble_eq_true rfl⟩ (fx_recv (g := 5) (i := 2) (ci := 3) (q := (RX2, TX2, 8)) hX hC (cin rfl) rfl rfl) hl.1 rfl (Nat.le_of_ble_eq_true rfl) ⟨Nat.zero_le _, Nat.zero_le _⟩ dX2_number_26 (fun _ H locs hC => ?_)
      refine W.eq (g2 := F0 m 29 ls []) rfl ?_
      refine lv_aload_n hx hb dX2_number_29 rfl (lv_at hl 0 rfl) ?_
      refine fg_get (C := RX2) (T := TX2) (N := 8) (ci := 3) (g := 5) (i := 2) (v := .int v) hx hb hown hts hX hC in_X2 rfl (cin rfl) rfl 7 (by decide) q296 (fun _ h => h) rfl dX2_number_30 ?_
      refine lv_istore_n (lv' := [(3, .int v), (0, .ref (G.ad 5 2)), (1, .int lo), (2, .int hi)]) hx hb dX2_number_33 rfl hl (by decide) rfl (fun ls hl => ?_)
      refine lv_aload_n hx hb dX2_number_34 rfl (lv_at hl 1 rfl) ?_
      refine fc_VT (As := []) (rest := []) hx hb hml hown hts hX hC (m_X2_next_F (sc := sc) (L := L) (a := a) (b := b) (t := t) (v := v) hL ha hn) (lw_V q1071 q1073 qs36 q113 q1074) hdV_X2_next ⟨rfl, rfl⟩ ⟨Nat.le_of_ble_eq_true rfl, Nat.le_of_ble_eq_true rfl⟩ (fx_recv (g := 5) (i := 2) (ci := 3) (q := (RX2, TX2, 8)) hX hC (cin rfl) rfl rfl) hl.1 rfl (Nat.le_of_ble_eq_true rfl) ⟨Nat.zero_le _, Nat.zero_le _⟩ dX2_number_35 (fun _ H locs hC => ?_)
      exact fx_out hlocks hX hC hE rfl () rfl rfl
