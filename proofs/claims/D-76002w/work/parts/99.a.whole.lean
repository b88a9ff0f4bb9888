theorem hdV_X2_item : yX2_item.cls = RX2 ∧ yX2_item.cls ≠ "java/lang/invoke/MethodHandle" ∧ yX2_item.cls ≠ "java/lang/invoke/VarHandle" ∧ (parseMethodDescriptor yX2_item.desc).map (fun d => d.parameters.length) = some 0 := by decide +kernel
theorem item_n0 {tp to : Row} {L a b : Nat} {t v : Int32} (h : t = 0) : c_item tp L a b t v to = ((a, b, t, v), false, to) := if_neg (fun z => absurd (h.symm.trans z.1) (by decide))
theorem nI_sur (x : Int32) : ∃ n, nI n = x := by
  refine ⟨x.toBitVec.toNat, ?_⟩
  rw [← Int32.toBitVec_inj]
  simp [nI]
theorem rd_ex {sc : Row} {L : Nat} (h : sc 0 = nI L) : ∃ a b, upd (upd sc 4 (sc 0)) 0 0 = rd (upd sc 0 0) L a b (sc 7) (sc 8) := by
  obtain ⟨a, ea⟩ := nI_sur (sc 5)
  obtain ⟨b, eb⟩ := nI_sur (sc 6)
  refine ⟨a, b, ?_⟩
  funext j
  match j with
  | 0 => rfl
  | 1 => rfl
  | 2 => rfl
  | 3 => rfl
  | 4 => exact h
  | 5 => exact ea.symm
  | 6 => exact eb.symm
  | 7 => rfl
  | 8 => rfl
  | _ + 9 => rfl
set_option maxRecDepth 100000 in
theorem m_X2_whole_T {l : Launch} {G : Gc} {d kp as un to sc fd tp sh : Row} {sp : Nat → Option Nat} {L a b : Nat} {t v : Int32} (hL : L ≤ 120) (hw : WF to) {a1 b1 : Nat} {t1 v1 n1 : Int32} {to1 : Row} (hq : c_whole tp L t v to = ((a1, b1, t1, v1), true, n1, to1)) : Cm l yX2_whole (ws_ yX2_whole cX2_whole 2 (some .int)) ({ frames := 11, cells := 0, slots := 0, locals := 239 }) (cF G) [.ref (G.ad 5 2)] (cct G (pg d kp as un to (rd sc L a b t v) fd tp sh) sp) (fun _ : Unit => some (.int n1)) (fun _ => cct G (pg d kp as un to1 (rd sc L a1 b1 t1 v1) fd tp sh) sp) := by
  refine Cm.start (by decide) (Nat.le_of_ble_eq_true rfl) ?_
  intro p e s m below meth c hf hX hC ls hl
  obtain ⟨hx, hb, hr, hml, hown, hts, hlocks⟩ := hf
  have hl : lv_has ls 2 [(0, .ref (G.ad 5 2))] := hl
  have hown : s.vm.findClass "OwlEars$Reader" = some m.cls := hown
  refine lv_aload_n hx hb dX2_whole_0 rfl (lv_at hl 0 rfl) ?_
  refine lv_iconst (v := 0) hx hb dX2_whole_1 rfl ?_
  refine W.eq (g2 := F0 m 2 ls [.int (nI 0), .ref (G.ad 5 2)]) rfl ?_
  refine fg_put (C := RX2) (T := TX2) (N := 8) (ci := 3) (g := 5) (i := 2) hx hb hown hts hX hC in_X2 tyX2 tyX2_ok nmX2 rfl (cin rfl) rfl 4 (by decide) q292 (fun _ h => h) rfl rfl rfl (Nat.le_of_ble_eq_true rfl) (cct G (pg d kp as un to (rd sc L 0 b t v) fd tp sh) sp) cs_rd dX2_whole_2 (fun H locs hC => ?_)
  unfold c_whole at hq
  rcases e2 : c_next tp L 0 t v with ⟨⟨a2, b2, t2, v2⟩, ok2⟩
  cases ok2
  · rw [cn_f e2] at hq
    exact absurd (show false = true from congrArg (fun z => z.2.1) hq) (by decide)
  · rw [cn_t e2] at hq
    have l2 := next_L (Nat.zero_le L) e2
    rcases e3 : c_item tp L a2 b2 t2 v2 to with ⟨⟨a3, b3, t3, v3⟩, ok3, to3⟩
    cases ok3
    · rw [cc_f e3] at hq
      exact absurd (show false = true from congrArg (fun z => z.2.1) hq) (by decide)
    · rw [cc_t e3] at hq
      have l3 := item_L l2.1 l2.2 e3
      have hw3 := item_W hw (next_2 e2) e3
      refine lv_aload_n hx hb dX2_whole_5 rfl (lv_at hl 0 rfl) ?_
      refine fc_V (As := []) (rest := []) hx hb hml hown hts hX hC (m_X2_next_T (sc := sc) (L := L) (a := 0) (b := b) (t := t) (v := v) hL (Nat.zero_le L) e2) (lw_V q1071 q1073 qs36 q113 q1074) hdV_X2_next ⟨rfl, rfl⟩ ⟨Nat.le_of_ble_eq_true rfl, Nat.le_of_ble_eq_true rfl⟩ (fx_recv (g := 5) (i := 2) (ci := 3) (q := (RX2, TX2, 8)) hX hC (cin rfl) rfl rfl) hl.1 rfl (Nat.le_of_ble_eq_true rfl) ⟨Nat.zero_le _, Nat.zero_le _⟩ dX2_whole_6 (fun _ H locs hC => ?_)
      refine W.eq (g2 := F0 m 9 ls []) rfl ?_
      refine lv_aload_n hx hb dX2_whole_9 rfl (lv_at hl 0 rfl) ?_
      refine fc_V (As := []) (rest := []) hx hb hml hown hts hX hC (m_X2_item_T (sc := sc) (L := L) (a := a2) (b := b2) (t := t2) (v := v2) hL l2.1 (vin_nn hw.many) e3) (lw_V q1143 q1145 qs42 q113 q1146) hdV_X2_item ⟨rfl, rfl⟩ ⟨Nat.le_of_ble_eq_true rfl, Nat.le_of_ble_eq_true rfl⟩ (fx_recv (g := 5) (i := 2) (ci := 3) (q := (RX2, TX2, 8)) hX hC (cin rfl) rfl rfl) hl.1 rfl (Nat.le_of_ble_eq_true rfl) ⟨Nat.zero_le _, Nat.zero_le _⟩ dX2_whole_10 (fun _ H locs hC => ?_)
      refine W.eq (g2 := F0 m 13 ls []) rfl ?_
      refine lv_iconst (v := 1) hx hb dX2_whole_13 rfl ?_
      refine lv_istore_n (lv' := [(1, .int 1), (0, .ref (G.ad 5 2))]) hx hb dX2_whole_14 rfl hl (by decide) rfl (fun ls hl => ?_)
      have L5 : ∀ (k5 : Nat) (n5 : Int32) (a5 b5 : Nat) (t5 v5 : Int32) (to5 : Row), a5 ≤ L → b5 ≤ L → 121 ≤ a5 + k5 → WF to5 → c_loop tp L k5 n5 a5 b5 t5 v5 to5 = ((a1, b1, t1, v1), true, n1, to1) → ∀ (H : Heap) (locs : List Loc), fC (cF G) (cct G (pg d kp as un to5 (rd sc L a5 b5 t5 v5) fd tp sh) sp) s.heap H locs → ∀ ls : Array Slot, lv_has ls 2 [(1, .int n5), (0, .ref (G.ad 5 2))] → WG p l e ({ frames := 11, cells := 0, slots := 0, locals := 239 }) s m (([.ref (G.ad 5 2)] : List Value).toArray) below meth c H locs (cF G) (fun _ : Unit => some (.int n1)) (fun _ => cct G (pg d kp as un to1 (rd sc L a1 b1 t1 v1) fd tp sh) sp) (F0 m 15 ls []) := by
        clear hq
        intro k5
        induction k5 with
        | zero =>
          intro n5 a5 b5 t5 v5 to5 ha5 hb5 hk5 hw5 hq H locs hC ls hl
          exact absurd hk5 (by omega)
        | succ k5 ih5 =>
          intro n5 a5 b5 t5 v5 to5 ha5 hb5 hk5 hw5 hq H locs hC ls hl
          refine lv_aload_n hx hb dX2_whole_15 rfl (lv_at hl 1 rfl) ?_
          refine fg_get (C := RX2) (T := TX2) (N := 8) (ci := 3) (g := 5) (i := 2) (v := .int t5) hx hb hown hts hX hC in_X2 rfl (cin rfl) rfl 6 (by decide) q295 (fun _ h => h) rfl dX2_whole_16 ?_
          refine lv_iconst (v := 3) hx hb dX2_whole_19 rfl ?_
          refine lv_icmp_ne (tgt := 37) hx hb dX2_whole_20 (by decide) (fun c_3 => ?_) (fun c_3 => ?_)
          · refine lv_aload_n hx hb dX2_whole_37 rfl (lv_at hl 1 rfl) ?_
            refine lv_aload_n hx hb dX2_whole_38 rfl (lv_at hl 1 rfl) ?_
            refine fg_get (C := RX2) (T := TX2) (N := 8) (ci := 3) (g := 5) (i := 2) (v := .int t5) hx hb hown hts hX hC in_X2 rfl (cin rfl) rfl 6 (by decide) q295 (fun _ h => h) rfl dX2_whole_39 ?_
            refine lv_if_ne (tgt := 49) hx hb dX2_whole_42 (by decide) (fun c_4 => ?_) (fun c_4 => ?_)
            · rw [lop_x c_3 c_4] at hq
              exact absurd (show false = true from congrArg (fun z => z.2.1) hq) (by decide)
            · rw [lop_0 c_3 c_4] at hq
              have h1 : a5 = a1 := congrArg (fun z => z.1.1) hq
              have h2 : b5 = b1 := congrArg (fun z => z.1.2.1) hq
              have h3 : t5 = t1 := congrArg (fun z => z.1.2.2.1) hq
              have h4 : v5 = v1 := congrArg (fun z => z.1.2.2.2) hq
              have h5 : to5 = to1 := congrArg (fun z => z.2.2.2) hq
              have h6 : n5 = n1 := congrArg (fun z => z.2.2.1) hq
              refine lv_iconst (v := 1) hx hb dX2_whole_45 rfl ?_
              refine lv_goto (tgt := 50) hx hb dX2_whole_46 (by decide) ?_
              refine fc_V (As := [.int 1]) (rest := []) hx hb hml hown hts hX hC (m_X2_need_1) (lw_V q1132 q1134 qs40 q113 q1135) hdV_X2_need ⟨rfl, rfl⟩ ⟨Nat.le_of_ble_eq_true rfl, Nat.le_of_ble_eq_true rfl⟩ (fx_recv (g := 5) (i := 2) (ci := 3) (q := (RX2, TX2, 8)) hX hC (cin rfl) rfl rfl) hl.1 rfl (Nat.le_of_ble_eq_true rfl) ⟨Nat.zero_le _, Nat.zero_le _⟩ dX2_whole_50 (fun _ H locs hC => ?_)
              refine W.eq (g2 := F0 m 53 ls []) rfl ?_
              refine lv_iload_n hx hb dX2_whole_53 rfl (lv_at hl 0 rfl) ?_
              exact fr_i hx hb hr hlocks hX hC () (congrArg (fun z => some (Value.int z)) (h6.symm)) ((congrArg (fun z => cct G (pg d kp as un z (rd sc L a5 b5 t5 v5) fd tp sh) sp) (h5)).trans (congrArg (fun z => cct G (pg d kp as un to1 z fd tp sh) sp) (by rw [h1, h2, h3, h4]))) dX2_whole_54
          · rw [lop_3 c_3] at hq
            rcases e6 : c_next tp L a5 t5 v5 with ⟨⟨a6, b6, t6, v6⟩, ok6⟩
            cases ok6
            · rw [cn_f e6] at hq
              exact absurd (show false = true from congrArg (fun z => z.2.1) hq) (by decide)
            · rw [cn_t e6] at hq
              have l6 := next_L ha5 e6
              rcases e7 : c_item tp L a6 b6 t6 v6 to5 with ⟨⟨a7, b7, t7, v7⟩, ok7, to7⟩
              cases ok7
              · rw [cc_f e7] at hq
                exact absurd (show false = true from congrArg (fun z => z.2.1) hq) (by decide)
              · rw [cc_t e7] at hq
                have l7 := item_L l6.1 l6.2 e7
                have hw7 := item_W hw5 (next_2 e6) e7
                have hs6 := next_S hL ha5 e6 (fun z => absurd (show false = true from congrArg (fun z => z.2.1) ((item_n0 z).symm.trans e7)) (by decide))
                refine lv_aload_n hx hb dX2_whole_23 rfl (lv_at hl 1 rfl) ?_
                refine fc_V (As := []) (rest := []) hx hb hml hown hts hX hC (m_X2_next_T (sc := sc) (L := L) (a := a5) (b := b5) (t := t5) (v := v5) hL ha5 e6) (lw_V q1071 q1073 qs36 q113 q1074) hdV_X2_next ⟨rfl, rfl⟩ ⟨Nat.le_of_ble_eq_true rfl, Nat.le_of_ble_eq_true rfl⟩ (fx_recv (g := 5) (i := 2) (ci := 3) (q := (RX2, TX2, 8)) hX hC (cin rfl) rfl rfl) hl.1 rfl (Nat.le_of_ble_eq_true rfl) ⟨Nat.zero_le _, Nat.zero_le _⟩ dX2_whole_24 (fun _ H locs hC => ?_)
                refine W.eq (g2 := F0 m 27 ls []) rfl ?_
                refine lv_aload_n hx hb dX2_whole_27 rfl (lv_at hl 1 rfl) ?_
                refine fc_V (As := []) (rest := []) hx hb hml hown hts hX hC (m_X2_item_T (sc := sc) (L := L) (a := a6) (b := b6) (t := t6) (v := v6) hL l6.1 (vin_nn hw5.many) e7) (lw_V q1143 q1145 qs42 q113 q1146) hdV_X2_item ⟨rfl, rfl⟩ ⟨Nat.le_of_ble_eq_true rfl, Nat.le_of_ble_eq_true rfl⟩ (fx_recv (g := 5) (i := 2) (ci := 3) (q := (RX2, TX2, 8)) hX hC (cin rfl) rfl rfl) hl.1 rfl (Nat.le_of_ble_eq_true rfl) ⟨Nat.zero_le _, Nat.zero_le _⟩ dX2_whole_28 (fun _ H locs hC => ?_)
                refine W.eq (g2 := F0 m 31 ls []) rfl ?_
                refine lv_iinc (v := n5 + 1) (lv' := [(1, .int (n5 + 1)), (0, .ref (G.ad 5 2))]) hx hb dX2_whole_31 hl (k := 0) rfl rfl (by decide) rfl (fun ls hl => ?_)
                refine lv_goto (tgt := 15) hx hb dX2_whole_34 (by decide) ?_
                exact ih5 _ _ _ _ _ _ l7.2.1 l7.2.2 (by omega) hw7 hq _ _ hC ls (lv_sub hl [0, 1] rfl)
      exact L5 121 1 _ _ _ _ _ l3.2.1 l3.2.2 (by omega) hw3 hq _ _ hC ls (lv_sub hl [0, 1] rfl)
set_option maxRecDepth 100000 in
theorem m_X2_whole_F {l : Launch} {G : Gc} {d kp as un to sc fd tp sh : Row} {sp : Nat → Option Nat} {L a b : Nat} {t v : Int32} (hL : L ≤ 120) (hw : WF to) {a1 b1 : Nat} {t1 v1 n1 : Int32} {to1 : Row} (hq : c_whole tp L t v to = ((a1, b1, t1, v1), false, n1, to1)) : CmX l yX2_whole (ws_ yX2_whole cX2_whole 2 (some .int)) ({ frames := 11, cells := 0, slots := 0, locals := 239 }) (cF G) [.ref (G.ad 5 2)] (cct G (pg d kp as un to (rd sc L a b t v) fd tp sh) sp) (fun _ : Unit => .threw (G.ad 5 3)) (fun _ => cct G (pg d kp as un to1 (rd sc L a1 b1 t1 v1) fd tp sh) sp) := by
  refine CmX.start (by decide) (Nat.le_of_ble_eq_true rfl) ?_
  intro p e s m below meth c hf hE hX hC ls hl
  obtain ⟨hx, hb, hr, hml, hown, hts, hlocks⟩ := hf
  have hl : lv_has ls 2 [(0, .ref (G.ad 5 2))] := hl
  have hown : s.vm.findClass "OwlEars$Reader" = some m.cls := hown
  refine lv_aload_n hx hb dX2_whole_0 rfl (lv_at hl 0 rfl) ?_
  refine lv_iconst (v := 0) hx hb dX2_whole_1 rfl ?_
  refine W.eq (g2 := F0 m 2 ls [.int (nI 0), .ref (G.ad 5 2)]) rfl ?_
  refine fg_put (C := RX2) (T := TX2) (N := 8) (ci := 3) (g := 5) (i := 2) hx hb hown hts hX hC in_X2 tyX2 tyX2_ok nmX2 rfl (cin rfl) rfl 4 (by decide) q292 (fun _ h => h) rfl rfl rfl (Nat.le_of_ble_eq_true rfl) (cct G (pg d kp as un to (rd sc L 0 b t v) fd tp sh) sp) cs_rd dX2_whole_2 (fun H locs hC => ?_)
  unfold c_whole at hq
  rcases e2 : c_next tp L 0 t v with ⟨⟨a2, b2, t2, v2⟩, ok2⟩
  cases ok2
  · rw [cn_f e2] at hq
    have h1 : a2 = a1 := congrArg (fun z => z.1.1) hq
    have h2 : b2 = b1 := congrArg (fun z => z.1.2.1) hq
    have h3 : t2 = t1 := congrArg (fun z => z.1.2.2.1) hq
    have h4 : v2 = v1 := congrArg (fun z => z.1.2.2.2) hq
    have h5 : to = to1 := congrArg (fun z => z.2.2.2) hq
    have h6 : 0 = n1 := congrArg (fun z => z.2.2.1) hq
    refine lv_aload_n hx hb dX2_whole_5 rfl (lv_at hl 0 rfl) ?_
    refine fc_VT (As := []) (rest := []) hx hb hml hown hts hX hC (m_X2_next_F (sc := sc) (L := L) (a := 0) (b := b) (t := t) (v := v) hL (Nat.zero_le L) e2) (lw_V q1071 q1073 qs36 q113 q1074) hdV_X2_next ⟨rfl, rfl⟩ ⟨Nat.le_of_ble_eq_true rfl, Nat.le_of_ble_eq_true rfl⟩ (fx_recv (g := 5) (i := 2) (ci := 3) (q := (RX2, TX2, 8)) hX hC (cin rfl) rfl rfl) hl.1 rfl (Nat.le_of_ble_eq_true rfl) ⟨Nat.zero_le _, Nat.zero_le _⟩ dX2_whole_6 (fun _ H locs hC => ?_)
    exact fx_out hlocks hX hC hE rfl () rfl (by rw [h1, h2, h3, h4, h5])
  · rw [cn_t e2] at hq
    have l2 := next_L (Nat.zero_le L) e2
    rcases e3 : c_item tp L a2 b2 t2 v2 to with ⟨⟨a3, b3, t3, v3⟩, ok3, to3⟩
    cases ok3
    · rw [cc_f e3] at hq
      have h1 : a3 = a1 := congrArg (fun z => z.1.1) hq
      have h2 : b3 = b1 := congrArg (fun z => z.1.2.1) hq
      have h3 : t3 = t1 := congrArg (fun z => z.1.2.2.1) hq
      have h4 : v3 = v1 := congrArg (fun z => z.1.2.2.2) hq
      have h5 : to3 = to1 := congrArg (fun z => z.2.2.2) hq
      have h6 : 0 = n1 := congrArg (fun z => z.2.2.1) hq
      refine lv_aload_n hx hb dX2_whole_5 rfl (lv_at hl 0 rfl) ?_
      refine fc_V (As := []) (rest := []) hx hb hml hown hts hX hC (m_X2_next_T (sc := sc) (L := L) (a := 0) (b := b) (t := t) (v := v) hL (Nat.zero_le L) e2) (lw_V q1071 q1073 qs36 q113 q1074) hdV_X2_next ⟨rfl, rfl⟩ ⟨Nat.le_of_ble_eq_true rfl, Nat.le_of_ble_eq_true rfl⟩ (fx_recv (g := 5) (i := 2) (ci := 3) (q := (RX2, TX2, 8)) hX hC (cin rfl) rfl rfl) hl.1 rfl (Nat.le_of_ble_eq_true rfl) ⟨Nat.zero_le _, Nat.zero_le _⟩ dX2_whole_6 (fun _ H locs hC => ?_)
      refine W.eq (g2 := F0 m 9 ls []) rfl ?_
      refine lv_aload_n hx hb dX2_whole_9 rfl (lv_at hl 0 rfl) ?_
      refine fc_VT (As := []) (rest := []) hx hb hml hown hts hX hC (m_X2_item_F (sc := sc) (L := L) (a := a2) (b := b2) (t := t2) (v := v2) hL l2.1 (vin_nn hw.many) e3) (lw_V q1143 q1145 qs42 q113 q1146) hdV_X2_item ⟨rfl, rfl⟩ ⟨Nat.le_of_ble_eq_true rfl, Nat.le_of_ble_eq_true rfl⟩ (fx_recv (g := 5) (i := 2) (ci := 3) (q := (RX2, TX2, 8)) hX hC (cin rfl) rfl rfl) hl.1 rfl (Nat.le_of_ble_eq_true rfl) ⟨Nat.zero_le _, Nat.zero_le _⟩ dX2_whole_10 (fun _ H locs hC => ?_)
      exact fx_out hlocks hX hC hE rfl () rfl (by rw [h1, h2, h3, h4, h5])
    · rw [cc_t e3] at hq
      have l3 := item_L l2.1 l2.2 e3
      have hw3 := item_W hw (next_2 e2) e3
      refine lv_aload_n hx hb dX2_whole_5 rfl (lv_at hl 0 rfl) ?_
      refine fc_V (As := []) (rest := []) hx hb hml hown hts hX hC (m_X2_next_T (sc := sc) (L := L) (a := 0) (b := b) (t := t) (v := v) hL (Nat.zero_le L) e2) (lw_V q1071 q1073 qs36 q113 q1074) hdV_X2_next ⟨rfl, rfl⟩ ⟨Nat.le_of_ble_eq_true rfl, Nat.le_of_ble_eq_true rfl⟩ (fx_recv (g := 5) (i := 2) (ci := 3) (q := (RX2, TX2, 8)) hX hC (cin rfl) rfl rfl) hl.1 rfl (Nat.le_of_ble_eq_true rfl) ⟨Nat.zero_le _, Nat.zero_le _⟩ dX2_whole_6 (fun _ H locs hC => ?_)
      refine W.eq (g2 := F0 m 9 ls []) rfl ?_
      refine lv_aload_n hx hb dX2_whole_9 rfl (lv_at hl 0 rfl) ?_
      refine fc_V (As := []) (rest := []) hx hb hml hown hts hX hC (m_X2_item_T (sc := sc) (L := L) (a := a2) (b := b2) (t := t2) (v := v2) hL l2.1 (vin_nn hw.many) e3) (lw_V q1143 q1145 qs42 q113 q1146) hdV_X2_item ⟨rfl, rfl⟩ ⟨Nat.le_of_ble_eq_true rfl, Nat.le_of_ble_eq_true rfl⟩ (fx_recv (g := 5) (i := 2) (ci := 3) (q := (RX2, TX2, 8)) hX hC (cin rfl) rfl rfl) hl.1 rfl (Nat.le_of_ble_eq_true rfl) ⟨Nat.zero_le _, Nat.zero_le _⟩ dX2_whole_10 (fun _ H locs hC => ?_)
      refine W.eq (g2 := F0 m 13 ls []) rfl ?_
      refine lv_iconst (v := 1) hx hb dX2_whole_13 rfl ?_
      refine lv_istore_n (lv' := [(1, .int 1), (0, .ref (G.ad 5 2))]) hx hb dX2_whole_14 rfl hl (by decide) rfl (fun ls hl => ?_)
      have L5 : ∀ (k5 : Nat) (n5 : Int32) (a5 b5 : Nat) (t5 v5 : Int32) (to5 : Row), a5 ≤ L → b5 ≤ L → 121 ≤ a5 + k5 → WF to5 → c_loop tp L k5 n5 a5 b5 t5 v5 to5 = ((a1, b1, t1, v1), false, n1, to1) → ∀ (H : Heap) (locs : List Loc), fC (cF G) (cct G (pg d kp as un to5 (rd sc L a5 b5 t5 v5) fd tp sh) sp) s.heap H locs → ∀ ls : Array Slot, lv_has ls 2 [(1, .int n5), (0, .ref (G.ad 5 2))] → WGX p l e ({ frames := 11, cells := 0, slots := 0, locals := 239 }) s m (([.ref (G.ad 5 2)] : List Value).toArray) below meth c H locs (cF G) (fun _ : Unit => .threw (G.ad 5 3)) (fun _ => cct G (pg d kp as un to1 (rd sc L a1 b1 t1 v1) fd tp sh) sp) (F0 m 15 ls []) := by
        clear hq
        intro k5
        induction k5 with
        | zero =>
          intro n5 a5 b5 t5 v5 to5 ha5 hb5 hk5 hw5 hq H locs hC ls hl
          exact absurd hk5 (by omega)
        | succ k5 ih5 =>
          intro n5 a5 b5 t5 v5 to5 ha5 hb5 hk5 hw5 hq H locs hC ls hl
          refine lv_aload_n hx hb dX2_whole_15 rfl (lv_at hl 1 rfl) ?_
          refine fg_get (C := RX2) (T := TX2) (N := 8) (ci := 3) (g := 5) (i := 2) (v := .int t5) hx hb hown hts hX hC in_X2 rfl (cin rfl) rfl 6 (by decide) q295 (fun _ h => h) rfl dX2_whole_16 ?_
          refine lv_iconst (v := 3) hx hb dX2_whole_19 rfl ?_
          refine lv_icmp_ne (tgt := 37) hx hb dX2_whole_20 (by decide) (fun c_6 => ?_) (fun c_6 => ?_)
          · refine lv_aload_n hx hb dX2_whole_37 rfl (lv_at hl 1 rfl) ?_
            refine lv_aload_n hx hb dX2_whole_38 rfl (lv_at hl 1 rfl) ?_
            refine fg_get (C := RX2) (T := TX2) (N := 8) (ci := 3) (g := 5) (i := 2) (v := .int t5) hx hb hown hts hX hC in_X2 rfl (cin rfl) rfl 6 (by decide) q295 (fun _ h => h) rfl dX2_whole_39 ?_
            refine lv_if_ne (tgt := 49) hx hb dX2_whole_42 (by decide) (fun c_7 => ?_) (fun c_7 => ?_)
            · rw [lop_x c_6 c_7] at hq
              have h1 : a5 = a1 := congrArg (fun z => z.1.1) hq
              have h2 : b5 = b1 := congrArg (fun z => z.1.2.1) hq
              have h3 : t5 = t1 := congrArg (fun z => z.1.2.2.1) hq
              have h4 : v5 = v1 := congrArg (fun z => z.1.2.2.2) hq
              have h5 : to5 = to1 := congrArg (fun z => z.2.2.2) hq
              have h6 : 0 = n1 := congrArg (fun z => z.2.2.1) hq
              refine lv_iconst (v := 0) hx hb dX2_whole_49 rfl ?_
              refine fc_VT (As := [.int 0]) (rest := []) hx hb hml hown hts hX hC (m_X2_need_0) (lw_V q1132 q1134 qs40 q113 q1135) hdV_X2_need ⟨rfl, rfl⟩ ⟨Nat.le_of_ble_eq_true rfl, Nat.le_of_ble_eq_true rfl⟩ (fx_recv (g := 5) (i := 2) (ci := 3) (q := (RX2, TX2, 8)) hX hC (cin rfl) rfl rfl) hl.1 rfl (Nat.le_of_ble_eq_true rfl) ⟨Nat.zero_le _, Nat.zero_le _⟩ dX2_whole_50 (fun _ H locs hC => ?_)
              exact fx_out hlocks hX hC hE rfl () rfl (by rw [h1, h2, h3, h4, h5])
            · rw [lop_0 c_6 c_7] at hq
              exact absurd (show true = false from congrArg (fun z => z.2.1) hq) (by decide)
          · rw [lop_3 c_6] at hq
            rcases e6 : c_next tp L a5 t5 v5 with ⟨⟨a6, b6, t6, v6⟩, ok6⟩
            cases ok6
            · rw [cn_f e6] at hq
              have h1 : a6 = a1 := congrArg (fun z => z.1.1) hq
              have h2 : b6 = b1 := congrArg (fun z => z.1.2.1) hq
              have h3 : t6 = t1 := congrArg (fun z => z.1.2.2.1) hq
              have h4 : v6 = v1 := congrArg (fun z => z.1.2.2.2) hq
              have h5 : to5 = to1 := congrArg (fun z => z.2.2.2) hq
              have h6 : 0 = n1 := congrArg (fun z => z.2.2.1) hq
              refine lv_aload_n hx hb dX2_whole_23 rfl (lv_at hl 1 rfl) ?_
              refine fc_VT (As := []) (rest := []) hx hb hml hown hts hX hC (m_X2_next_F (sc := sc) (L := L) (a := a5) (b := b5) (t := t5) (v := v5) hL ha5 e6) (lw_V q1071 q1073 qs36 q113 q1074) hdV_X2_next ⟨rfl, rfl⟩ ⟨Nat.le_of_ble_eq_true rfl, Nat.le_of_ble_eq_true rfl⟩ (fx_recv (g := 5) (i := 2) (ci := 3) (q := (RX2, TX2, 8)) hX hC (cin rfl) rfl rfl) hl.1 rfl (Nat.le_of_ble_eq_true rfl) ⟨Nat.zero_le _, Nat.zero_le _⟩ dX2_whole_24 (fun _ H locs hC => ?_)
              exact fx_out hlocks hX hC hE rfl () rfl (by rw [h1, h2, h3, h4, h5])
            · rw [cn_t e6] at hq
              have l6 := next_L ha5 e6
              rcases e7 : c_item tp L a6 b6 t6 v6 to5 with ⟨⟨a7, b7, t7, v7⟩, ok7, to7⟩
              cases ok7
              · rw [cc_f e7] at hq
                have h1 : a7 = a1 := congrArg (fun z => z.1.1) hq
                have h2 : b7 = b1 := congrArg (fun z => z.1.2.1) hq
                have h3 : t7 = t1 := congrArg (fun z => z.1.2.2.1) hq
                have h4 : v7 = v1 := congrArg (fun z => z.1.2.2.2) hq
                have h5 : to7 = to1 := congrArg (fun z => z.2.2.2) hq
                have h6 : 0 = n1 := congrArg (fun z => z.2.2.1) hq
                refine lv_aload_n hx hb dX2_whole_23 rfl (lv_at hl 1 rfl) ?_
                refine fc_V (As := []) (rest := []) hx hb hml hown hts hX hC (m_X2_next_T (sc := sc) (L := L) (a := a5) (b := b5) (t := t5) (v := v5) hL ha5 e6) (lw_V q1071 q1073 qs36 q113 q1074) hdV_X2_next ⟨rfl, rfl⟩ ⟨Nat.le_of_ble_eq_true rfl, Nat.le_of_ble_eq_true rfl⟩ (fx_recv (g := 5) (i := 2) (ci := 3) (q := (RX2, TX2, 8)) hX hC (cin rfl) rfl rfl) hl.1 rfl (Nat.le_of_ble_eq_true rfl) ⟨Nat.zero_le _, Nat.zero_le _⟩ dX2_whole_24 (fun _ H locs hC => ?_)
                refine W.eq (g2 := F0 m 27 ls []) rfl ?_
                refine lv_aload_n hx hb dX2_whole_27 rfl (lv_at hl 1 rfl) ?_
                refine fc_VT (As := []) (rest := []) hx hb hml hown hts hX hC (m_X2_item_F (sc := sc) (L := L) (a := a6) (b := b6) (t := t6) (v := v6) hL l6.1 (vin_nn hw5.many) e7) (lw_V q1143 q1145 qs42 q113 q1146) hdV_X2_item ⟨rfl, rfl⟩ ⟨Nat.le_of_ble_eq_true rfl, Nat.le_of_ble_eq_true rfl⟩ (fx_recv (g := 5) (i := 2) (ci := 3) (q := (RX2, TX2, 8)) hX hC (cin rfl) rfl rfl) hl.1 rfl (Nat.le_of_ble_eq_true rfl) ⟨Nat.zero_le _, Nat.zero_le _⟩ dX2_whole_28 (fun _ H locs hC => ?_)
                exact fx_out hlocks hX hC hE rfl () rfl (by rw [h1, h2, h3, h4, h5])
              · rw [cc_t e7] at hq
                have l7 := item_L l6.1 l6.2 e7
                have hw7 := item_W hw5 (next_2 e6) e7
                have hs6 := next_S hL ha5 e6 (fun z => absurd (show false = true from congrArg (fun z => z.2.1) ((item_n0 z).symm.trans e7)) (by decide))
                refine lv_aload_n hx hb dX2_whole_23 rfl (lv_at hl 1 rfl) ?_
                refine fc_V (As := []) (rest := []) hx hb hml hown hts hX hC (m_X2_next_T (sc := sc) (L := L) (a := a5) (b := b5) (t := t5) (v := v5) hL ha5 e6) (lw_V q1071 q1073 qs36 q113 q1074) hdV_X2_next ⟨rfl, rfl⟩ ⟨Nat.le_of_ble_eq_true rfl, Nat.le_of_ble_eq_true rfl⟩ (fx_recv (g := 5) (i := 2) (ci := 3) (q := (RX2, TX2, 8)) hX hC (cin rfl) rfl rfl) hl.1 rfl (Nat.le_of_ble_eq_true rfl) ⟨Nat.zero_le _, Nat.zero_le _⟩ dX2_whole_24 (fun _ H locs hC => ?_)
                refine W.eq (g2 := F0 m 27 ls []) rfl ?_
                refine lv_aload_n hx hb dX2_whole_27 rfl (lv_at hl 1 rfl) ?_
                refine fc_V (As := []) (rest := []) hx hb hml hown hts hX hC (m_X2_item_T (sc := sc) (L := L) (a := a6) (b := b6) (t := t6) (v := v6) hL l6.1 (vin_nn hw5.many) e7) (lw_V q1143 q1145 qs42 q113 q1146) hdV_X2_item ⟨rfl, rfl⟩ ⟨Nat.le_of_ble_eq_true rfl, Nat.le_of_ble_eq_true rfl⟩ (fx_recv (g := 5) (i := 2) (ci := 3) (q := (RX2, TX2, 8)) hX hC (cin rfl) rfl rfl) hl.1 rfl (Nat.le_of_ble_eq_true rfl) ⟨Nat.zero_le _, Nat.zero_le _⟩ dX2_whole_28 (fun _ H locs hC => ?_)
                refine W.eq (g2 := F0 m 31 ls []) rfl ?_
                refine lv_iinc (v := n5 + 1) (lv' := [(1, .int (n5 + 1)), (0, .ref (G.ad 5 2))]) hx hb dX2_whole_31 hl (k := 0) rfl rfl (by decide) rfl (fun ls hl => ?_)
                refine lv_goto (tgt := 15) hx hb dX2_whole_34 (by decide) ?_
                exact ih5 _ _ _ _ _ _ l7.2.1 l7.2.2 (by omega) hw7 hq _ _ hC ls (lv_sub hl [0, 1] rfl)
      exact L5 121 1 _ _ _ _ _ l3.2.1 l3.2.2 (by omega) hw3 hq _ _ hC ls (lv_sub hl [0, 1] rfl)
