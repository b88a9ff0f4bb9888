theorem num_in {tp : Row} {L a b a1 b1 : Nat} {lo hi t v t1 v1 : Int32} (hq : c_num tp L lo hi a b t v = ((a1, b1, t1, v1), true)) : p_in v lo hi := by
  unfold c_num at hq
  split at hq
  · rename_i h
    exact h.2
  · exact absurd (show false = true from congrArg (fun z => z.2) hq) (by decide)
theorem beh_in {tp : Row} {L a a1 b1 : Nat} {lo hi t v t1 v1 x : Int32} (hq : c_beh tp L lo hi a t v = ((a1, b1, t1, v1), true, x)) : p_in x lo hi := by
  rcases hn : c_next tp L a t v with ⟨⟨a2, b2, t2, v2⟩, ok2⟩
  cases ok2
  · rw [beh_f hn] at hq
    exact absurd (show false = true from congrArg (fun z => z.2.1) hq) (by decide)
  · rw [beh_t hn] at hq
    have hm : c_num tp L lo hi a2 b2 t2 v2 = ((a1, b1, t1, v1), true) := Prod.ext (congrArg (fun z => z.1) hq) (congrArg (fun z => z.2.1) hq)
    have hx9 : v2 = x := congrArg (fun z => z.2.2) hq
    exact hx9 ▸ num_in hm
theorem beh_L {tp : Row} {L a a1 b1 : Nat} {lo hi t v t1 v1 x : Int32} {ok : Bool} (h : a ≤ L) (hq : c_beh tp L lo hi a t v = ((a1, b1, t1, v1), ok, x)) : a1 ≤ L ∧ b1 ≤ L := by
  rcases hn : c_next tp L a t v with ⟨⟨a2, b2, t2, v2⟩, ok2⟩
  have h2 := next_L h hn
  cases ok2
  · rw [beh_f hn] at hq
    have e1 : a2 = a1 := congrArg (fun z => z.1.1) hq
    have e2 : b2 = b1 := congrArg (fun z => z.1.2.1) hq
    omega
  · rw [beh_t hn] at hq
    have hm : c_num tp L lo hi a2 b2 t2 v2 = ((a1, b1, t1, v1), ok) := Prod.ext (congrArg (fun z => z.1) hq) (congrArg (fun z => z.2.1) hq)
    exact num_L h2.1 h2.2 hm
def c_head (tp : Row) (L : Nat) (was : Int32) (a b : Nat) (t v : Int32) : (Nat × Nat × Int32 × Int32) × Bool × Int32 := if t = 2 ∧ p_in v 11 14 then ((c_next tp L a t v).1, (c_next tp L a t v).2, v - 11) else ((a, b, t, v), true, was)
set_option maxRecDepth 100000 in
theorem m_X2_heading_T {l : Launch} {G : Gc} {d kp as un to sc fd tp sh : Row} {sp : Nat → Option Nat} {L a b : Nat} {t v : Int32} (hL : L ≤ 120) (ha : a ≤ L) {a1 b1 : Nat} {t1 v1 : Int32} (was x : Int32) (hq : c_head tp L was a b t v = ((a1, b1, t1, v1), true, x)) : Cm l yX2_heading (ws_ yX2_heading cX2_heading 3 (some .int)) ({ frames := 7, cells := 0, slots := 0, locals := 151 }) (cF G) [.ref (G.ad 5 2), .int was] (cct G (pg d kp as un to (rd sc L a b t v) fd tp sh) sp) (fun _ : Unit => some (.int x)) (fun _ => cct G (pg d kp as un to (rd sc L a1 b1 t1 v1) fd tp sh) sp) := by
  refine Cm.start (by decide) (Nat.le_of_ble_eq_true rfl) ?_
  intro p e s m below meth c hf hX hC ls hl
  obtain ⟨hx, hb, hr, hml, hown, hts, hlocks⟩ := hf
  have hl : lv_has ls 3 [(0, .ref (G.ad 5 2)), (1, .int was)] := hl
  have hown : s.vm.findClass "OwlEars$Reader" = some m.cls := hown
  refine lv_aload_n hx hb dX2_heading_0 rfl (lv_at hl 0 rfl) ?_
  refine fg_get (C := RX2) (T := TX2) (N := 8) (ci := 3) (g := 5) (i := 2) (v := .int t) hx hb hown hts hX hC in_X2 rfl (cin rfl) rfl 6 (by decide) q295 (fun _ h => h) rfl dX2_heading_1 ?_
  refine lv_iconst (v := 2) hx hb dX2_heading_4 rfl ?_
  refine lv_icmp_ne (tgt := 22) hx hb dX2_heading_5 (by decide) (fun c_1 => ?_) (fun c_1 => ?_)
  · rw [c_head, if_neg (fun z => c_1 z.1)] at hq
    have h1 : a = a1 := congrArg (fun z => z.1.1) hq
    have h2 : b = b1 := congrArg (fun z => z.1.2.1) hq
    have h3 : t = t1 := congrArg (fun z => z.1.2.2.1) hq
    have h4 : v = v1 := congrArg (fun z => z.1.2.2.2) hq
    have hx9 : was = x := congrArg (fun z => z.2.2) hq
    refine lv_iload_n hx hb dX2_heading_22 rfl (lv_at hl 1 rfl) ?_
    exact fr_i hx hb hr hlocks hX hC () (congrArg (fun z => some (Value.int z)) (hx9.symm)) (congrArg (fun z => cct G (pg d kp as un to z fd tp sh) sp) (by rw [h1, h2, h3, h4])) dX2_heading_23
  · refine lv_aload_n hx hb dX2_heading_8 rfl (lv_at hl 0 rfl) ?_
    refine fg_get (C := RX2) (T := TX2) (N := 8) (ci := 3) (g := 5) (i := 2) (v := .int v) hx hb hown hts hX hC in_X2 rfl (cin rfl) rfl 7 (by decide) q296 (fun _ h => h) rfl dX2_heading_9 ?_
    refine lv_bipush (v := 11) hx hb dX2_heading_12 rfl ?_
    refine lv_bipush (v := 14) hx hb dX2_heading_14 rfl ?_
    refine fc_SN (As := [.int v, .int 11, .int 14]) (rest := []) hx hb hml hown hts hX hC (m_X0_in v 11 14) (hX.2.2.1.M q1082) q470 q108 q471 hdS_X0_in ⟨rfl, rfl⟩ ⟨Nat.le_of_ble_eq_true rfl, Nat.le_of_ble_eq_true rfl⟩ hl.1 rfl (Nat.le_of_ble_eq_true rfl) ⟨Nat.zero_le _, Nat.zero_le _⟩ dX2_heading_16 (fun _ H locs hC => ?_)
    refine W.eq (g2 := F0 m 19 ls [.int (b2i (p_in v 11 14))]) rfl ?_
    refine fb_ne (tgt := 24) hx hb dX2_heading_19 (by decide) (fun c_3 => ?_) (fun c_3 => ?_)
    · rw [c_head, if_pos ⟨c_1, c_3⟩] at hq
      have hn : c_next tp L a t v = ((a1, b1, t1, v1), true) := Prod.ext (congrArg (fun z => z.1) hq) (congrArg (fun z => z.2.1) hq)
      have hx9 : v - 11 = x := congrArg (fun z => z.2.2) hq
      refine lv_aload_n hx hb dX2_heading_24 rfl (lv_at hl 0 rfl) ?_
      refine fg_get (C := RX2) (T := TX2) (N := 8) (ci := 3) (g := 5) (i := 2) (v := .int v) hx hb hown hts hX hC in_X2 rfl (cin rfl) rfl 7 (by decide) q296 (fun _ h => h) rfl dX2_heading_25 ?_
      refine lv_bipush (v := 11) hx hb dX2_heading_28 rfl ?_
      refine lv_isub hx hb dX2_heading_30 ?_
      refine lv_istore_n (lv' := [(2, .int (v - 11)), (0, .ref (G.ad 5 2)), (1, .int was)]) hx hb dX2_heading_31 rfl hl (by decide) rfl (fun ls hl => ?_)
      refine lv_aload_n hx hb dX2_heading_32 rfl (lv_at hl 1 rfl) ?_
      refine fc_V (As := []) (rest := []) hx hb hml hown hts hX hC (m_X2_next_T (sc := sc) (L := L) (a := a) (b := b) (t := t) (v := v) hL ha hn) (lw_V q1071 q1073 qs36 q113 q1074) hdV_X2_next ⟨rfl, rfl⟩ ⟨Nat.le_of_ble_eq_true rfl, Nat.le_of_ble_eq_true rfl⟩ (fx_recv (g := 5) (i := 2) (ci := 3) (q := (RX2, TX2, 8)) hX hC (cin rfl) rfl rfl) hl.1 rfl (Nat.le_of_ble_eq_true rfl) ⟨Nat.zero_le _, Nat.zero_le _⟩ dX2_heading_33 (fun _ H locs hC => ?_)
      refine W.eq (g2 := F0 m 36 ls []) rfl ?_
      refine lv_iload_n hx hb dX2_heading_36 rfl (lv_at hl 0 rfl) ?_
      exact fr_i hx hb hr hlocks hX hC () (congrArg (fun z => some (Value.int z)) (hx9.symm)) rfl dX2_heading_37
    · rw [c_head, if_neg (fun z => c_3 z.2)] at hq
      have h1 : a = a1 := congrArg (fun z => z.1.1) hq
      have h2 : b = b1 := congrArg (fun z => z.1.2.1) hq
      have h3 : t = t1 := congrArg (fun z => z.1.2.2.1) hq
      have h4 : v = v1 := congrArg (fun z => z.1.2.2.2) hq
      have hx9 : was = x := congrArg (fun z => z.2.2) hq
      refine lv_iload_n hx hb dX2_heading_22 rfl (lv_at hl 1 rfl) ?_
      exact fr_i hx hb hr hlocks hX hC () (congrArg (fun z => some (Value.int z)) (hx9.symm)) (congrArg (fun z => cct G (pg d kp as un to z fd tp sh) sp) (by rw [h1, h2, h3, h4])) dX2_heading_23
set_option maxRecDepth 100000 in
theorem m_X2_heading_F {l : Launch} {G : Gc} {d kp as un to sc fd tp sh : Row} {sp : Nat → Option Nat} {L a b : Nat} {t v : Int32} (hL : L ≤ 120) (ha : a ≤ L) {a1 b1 : Nat} {t1 v1 : Int32} (was x : Int32) (hq : c_head tp L was a b t v = ((a1, b1, t1, v1), false, x)) : CmX l yX2_heading (ws_ yX2_heading cX2_heading 3 (some .int)) ({ frames := 7, cells := 0, slots := 0, locals := 151 }) (cF G) [.ref (G.ad 5 2), .int was] (cct G (pg d kp as un to (rd sc L a b t v) fd tp sh) sp) (fun _ : Unit => .threw (G.ad 5 3)) (fun _ => cct G (pg d kp as un to (rd sc L a1 b1 t1 v1) fd tp sh) sp) := by
  refine CmX.start (by decide) (Nat.le_of_ble_eq_true rfl) ?_
  intro p e s m below meth c hf hE hX hC ls hl
  obtain ⟨hx, hb, hr, hml, hown, hts, hlocks⟩ := hf
  have hl : lv_has ls 3 [(0, .ref (G.ad 5 2)), (1, .int was)] := hl
  have hown : s.vm.findClass "OwlEars$Reader" = some m.cls := hown
  refine lv_aload_n hx hb dX2_heading_0 rfl (lv_at hl 0 rfl) ?_
  refine fg_get (C := RX2) (T := TX2) (N := 8) (ci := 3) (g := 5) (i := 2) (v := .int t) hx hb hown hts hX hC in_X2 rfl (cin rfl) rfl 6 (by decide) q295 (fun _ h => h) rfl dX2_heading_1 ?_
  refine lv_iconst (v := 2) hx hb dX2_heading_4 rfl ?_
  refine lv_icmp_ne (tgt := 22) hx hb dX2_heading_5 (by decide) (fun c_1 => ?_) (fun c_1 => ?_)
  · rw [c_head, if_neg (fun z => c_1 z.1)] at hq
    exact absurd (show true = false from congrArg (fun z => z.2.1) hq) (by decide)
  · refine lv_aload_n hx hb dX2_heading_8 rfl (lv_at hl 0 rfl) ?_
    refine fg_get (C := RX2) (T := TX2) (N := 8) (ci := 3) (g := 5) (i := 2) (v := .int v) hx hb hown hts hX hC in_X2 rfl (cin rfl) rfl 7 (by decide) q296 (fun _ h => h) rfl dX2_heading_9 ?_
    refine lv_bipush (v := 11) hx hb dX2_heading_12 rfl ?_
    refine lv_bipush (v := 14) hx hb dX2_heading_14 rfl ?_
    refine fc_SN (As := [.int v, .int 11, .int 14]) (rest := []) hx hb hml hown hts hX hC (m_X0_in v 11 14) (hX.2.2.1.M q1082) q470 q108 q471 hdS_X0_in ⟨rfl, rfl⟩ ⟨Nat.le_of_ble_eq_true rfl, Nat.le_of_ble_eq_true rfl⟩ hl.1 rfl (Nat.le_of_ble_eq_true rfl) ⟨Nat.zero_le _, Nat.zero_le _⟩ dX2_heading_16 (fun _ H locs hC => ?_)
    refine W.eq (g2 := F0 m 19 ls [.int (b2i (p_in v 11 14))]) rfl ?_
    refine fb_ne (tgt := 24) hx hb dX2_heading_19 (by decide) (fun c_3 => ?_) (fun c_3 => ?_)
    · rw [c_head, if_pos ⟨c_1, c_3⟩] at hq
      have hn : c_next tp L a t v = ((a1, b1, t1, v1), false) := Prod.ext (congrArg (fun z => z.1) hq) (congrArg (fun z => z.2.1) hq)
      have hx9 : v - 11 = x := congrArg (fun z => z.2.2) hq
      refine lv_aload_n hx hb dX2_heading_24 rfl (lv_at hl 0 rfl) ?_
      refine fg_get (C := RX2) (T := TX2) (N := 8) (ci := 3) (g := 5) (i := 2) (v := .int v) hx hb hown hts hX hC in_X2 rfl (cin rfl) rfl 7 (by decide) q296 (fun _ h => h) rfl dX2_heading_25 ?_
      refine lv_bipush (v := 11) hx hb dX2_heading_28 rfl ?_
      refine lv_isub hx hb dX2_heading_30 ?_
      refine lv_istore_n (lv' := [(2, .int (v - 11)), (0, .ref (G.ad 5 2)), (1, .int was)]) hx hb dX2_heading_31 rfl hl (by decide) rfl (fun ls hl => ?_)
      refine lv_aload_n hx hb dX2_heading_32 rfl (lv_at hl 1 rfl) ?_
      refine fc_VT (As := []) (rest := []) hx hb hml hown hts hX hC (m_X2_next_F (sc := sc) (L := L) (a := a) (b := b) (t := t) (v := v) hL ha hn) (lw_V q1071 q1073 qs36 q113 q1074) hdV_X2_next ⟨rfl, rfl⟩ ⟨Nat.le_of_ble_eq_true rfl, Nat.le_of_ble_eq_true rfl⟩ (fx_recv (g := 5) (i := 2) (ci := 3) (q := (RX2, TX2, 8)) hX hC (cin rfl) rfl rfl) hl.1 rfl (Nat.le_of_ble_eq_true rfl) ⟨Nat.zero_le _, Nat.zero_le _⟩ dX2_heading_33 (fun _ H locs hC => ?_)
      exact fx_out hlocks hX hC hE rfl () rfl rfl
    · rw [c_head, if_neg (fun z => c_3 z.2)] at hq
      exact absurd (show true = false from congrArg (fun z => z.2.1) hq) (by decide)
