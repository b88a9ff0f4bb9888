theorem hdS_X2_isLetter : yX2_isLetter.cls ≠ "java/lang/invoke/MethodHandle" ∧ yX2_isLetter.cls ≠ "java/lang/invoke/VarHandle" ∧ (parseMethodDescriptor yX2_isLetter.desc).map (fun d => d.parameters.length) = some 1 := by decide +kernel
theorem hdV_X2_isKey : yX2_isKey.cls = RX2 ∧ yX2_isKey.cls ≠ "java/lang/invoke/MethodHandle" ∧ yX2_isKey.cls ≠ "java/lang/invoke/VarHandle" ∧ (parseMethodDescriptor yX2_isKey.desc).map (fun d => d.parameters.length) = some 2 := by decide +kernel
set_option maxRecDepth 100000 in
theorem m_X2_word_t {l : Launch} {G : Gc} {d kp as un to sc fd tp sh : Row} {sp : Nat → Option Nat} {L a b : Nat} {t v : Int32} (hL : L ≤ 120) (ha : a ≤ 120) (hab : b ≤ a) (hv : p_fk tp L b (p_let tp L (121 - a) a - b) 18 0 < 18) : Cm l yX2_word (ws_ yX2_word cX2_word 2 none) ({ frames := 5, cells := 0, slots := 0, locals := 109 }) (cF G) [.ref (G.ad 5 2)] (cct G (pg d kp as un to (rd sc L a b t v) fd tp sh) sp) (fun _ : Unit => none) (fun _ => cct G (pg d kp as un to (rd sc L (p_let tp L (121 - a) a) b 2 (nI (p_fk tp L b (p_let tp L (121 - a) a - b) 18 0))) fd tp sh) sp) := by
  refine Cm.start (by decide) (Nat.le_of_ble_eq_true rfl) ?_
  intro p e s m below meth c hf hX hC ls hl
  obtain ⟨hx, hb, hr, hml, hown, hts, hlocks⟩ := hf
  have hl : lv_has ls 2 [(0, .ref (G.ad 5 2))] := hl
  have hown : s.vm.findClass "OwlEars$Reader" = some m.cls := hown
  have L_1 : ∀ (k1 i1 : Nat), i1 + k1 = 121 → p_let tp L (121 - a) a = p_let tp L k1 i1 → ∀ (H : Heap) (locs : List Loc), fC (cF G) (cct G (pg d kp as un to (rd sc L i1 b t v) fd tp sh) sp) s.heap H locs → ∀ ls : Array Slot, lv_has ls 2 [(0, .ref (G.ad 5 2))] → WG p l e ({ frames := 5, cells := 0, slots := 0, locals := 109 }) s m (([.ref (G.ad 5 2)] : List Value).toArray) below meth c H locs (cF G) (fun _ : Unit => none) (fun _ => cct G (pg d kp as un to (rd sc L (p_let tp L (121 - a) a) b 2 (nI (p_fk tp L b (p_let tp L (121 - a) a - b) 18 0))) fd tp sh) sp) (F0 m 0 ls []) := by
    intro k1
    induction k1 with
    | zero =>
      intro i1 hi1 hJ1 H locs hC ls hl
      obtain rfl : i1 = 121 := by omega
      refine lv_aload_n hx hb dX2_word_0 rfl (lv_at hl 0 rfl) ?_
      refine lv_aload_n hx hb dX2_word_1 rfl (lv_at hl 0 rfl) ?_
      refine fg_get (C := RX2) (T := TX2) (N := 8) (ci := 3) (g := 5) (i := 2) (v := .int (nI 121)) hx hb hown hts hX hC in_X2 rfl (cin rfl) rfl 4 (by decide) q292 (fun _ h => h) rfl dX2_word_2 ?_
      refine fc_V (As := [.int (nI 121)]) (rest := []) hx hb hml hown hts hX hC (m_X2_byteAt (sc := sc) (L := L) (a := 121) (b := b) (t := t) (v := v) hL 121 (by omega)) (lw_V q1075 q1077 qs37 q113 q1078) hdV_X2_byteAt ⟨rfl, rfl⟩ ⟨Nat.le_of_ble_eq_true rfl, Nat.le_of_ble_eq_true rfl⟩ (fx_recv (g := 5) (i := 2) (ci := 3) (q := (RX2, TX2, 8)) hX hC (cin rfl) rfl rfl) hl.1 rfl (Nat.le_of_ble_eq_true rfl) ⟨Nat.zero_le _, Nat.zero_le _⟩ dX2_word_5 (fun _ H locs hC => ?_)
      refine W.eq (g2 := F0 m 8 ls [.int (p_byte tp L 121)]) rfl ?_
      refine fc_S (As := [.int (p_byte tp L 121)]) (rest := []) hx hb hml hown hts hX hC (m_X2_isLetter (p_byte tp L 121)) (lw_S q1079 q1080 q113 q1081) hdS_X2_isLetter ⟨rfl, rfl⟩ ⟨Nat.le_of_ble_eq_true rfl, Nat.le_of_ble_eq_true rfl⟩ hl.1 rfl (Nat.le_of_ble_eq_true rfl) ⟨Nat.zero_le _, Nat.zero_le _⟩ dX2_word_8 (fun _ H locs hC => ?_)
      refine W.eq (g2 := F0 m 11 ls [.int (b2i (isLt (p_byte tp L 121)))]) rfl ?_
      refine fb_eq (tgt := 27) hx hb dX2_word_11 (by decide) (fun _ => ?_) (fun z_4 => absurd z_4 (by rw [byte_out (by omega)]; decide))
      have hq : p_let tp L (121 - a) a = 121 := hJ1
      have hge : a ≤ 121 := by have h8 := (let_le (tp := tp) (L := L) (121 - a) a).2; rw [hq] at h8; exact h8
      refine lv_iconst (v := 0) hx hb dX2_word_27 rfl ?_
      refine lv_istore_n (lv' := [(1, .int 0), (0, .ref (G.ad 5 2))]) hx hb dX2_word_28 rfl hl (by decide) rfl (fun ls hl => ?_)
      have L_5 : ∀ (f5 m5 : Nat), m5 + f5 = 18 → p_fk tp L b (121 - b) 18 0 = p_fk tp L b (121 - b) f5 m5 → ∀ (H : Heap) (locs : List Loc), fC (cF G) (cct G (pg d kp as un to (rd sc L 121 b t v) fd tp sh) sp) s.heap H locs → ∀ ls : Array Slot, lv_has ls 2 [(1, .int (nI m5)), (0, .ref (G.ad 5 2))] → WG p l e ({ frames := 5, cells := 0, slots := 0, locals := 109 }) s m (([.ref (G.ad 5 2)] : List Value).toArray) below meth c H locs (cF G) (fun _ : Unit => none) (fun _ => cct G (pg d kp as un to (rd sc L (p_let tp L (121 - a) a) b 2 (nI (p_fk tp L b (p_let tp L (121 - a) a - b) 18 0))) fd tp sh) sp) (F0 m 29 ls []) := by
        intro f5
        induction f5 with
        | zero =>
          intro m5 hi5 hJ5 H locs hC ls hl
          obtain rfl : m5 = 18 := by omega
          exact absurd hv (by rw [hq, show p_fk tp L b (121 - b) 18 0 = 18 from hJ5]; decide)
        | succ f5 ih5 =>
          intro m5 hi5 hJ5 H locs hC ls hl
          refine lv_iload_n hx hb dX2_word_29 rfl (lv_at hl 0 rfl) ?_
          refine lv_bipush (v := 18) hx hb dX2_word_30 rfl ?_
          refine fj_ge (tgt := 58) hx hb dX2_word_32 (by decide) (fun z_6 => absurd (nI_lt (a := m5) (b := 18) (by omega) (by decide)) z_6) (fun _ => ?_)
          refine lv_aload_n hx hb dX2_word_35 rfl (lv_at hl 1 rfl) ?_
          refine lv_iload_n hx hb dX2_word_36 rfl (lv_at hl 0 rfl) ?_
          refine lv_aload_n hx hb dX2_word_37 rfl (lv_at hl 1 rfl) ?_
          refine fg_get (C := RX2) (T := TX2) (N := 8) (ci := 3) (g := 5) (i := 2) (v := .int (nI 121)) hx hb hown hts hX hC in_X2 rfl (cin rfl) rfl 4 (by decide) q292 (fun _ h => h) rfl dX2_word_38 ?_
          refine lv_aload_n hx hb dX2_word_41 rfl (lv_at hl 1 rfl) ?_
          refine fg_get (C := RX2) (T := TX2) (N := 8) (ci := 3) (g := 5) (i := 2) (v := .int (nI b)) hx hb hown hts hX hC in_X2 rfl (cin rfl) rfl 5 (by decide) q293 (fun _ h => h) rfl dX2_word_42 ?_
          refine lv_isub hx hb dX2_word_45 ?_
          rw [nI_sub (a := 121) (b := b) (by omega)]
          refine fc_V (As := [.int (nI m5), .int (nI (121 - b))]) (rest := []) hx hb hml hown hts hX hC (m_X2_isKey (sc := sc) (L := L) (a := 121) (b := b) (t := t) (v := v) hL m5 (121 - b) (by omega) (by omega) (by omega)) (lw_V q1087 q1089 qs39 q113 q1090) hdV_X2_isKey ⟨rfl, rfl⟩ ⟨Nat.le_of_ble_eq_true rfl, Nat.le_of_ble_eq_true rfl⟩ (fx_recv (g := 5) (i := 2) (ci := 3) (q := (RX2, TX2, 8)) hX hC (cin rfl) rfl rfl) hl.1 rfl (Nat.le_of_ble_eq_true rfl) ⟨Nat.zero_le _, Nat.zero_le _⟩ dX2_word_46 (fun _ H locs hC => ?_)
          refine W.eq (g2 := F0 m 49 ls [.int (b2i (p_key tp L b m5 (121 - b)))]) rfl ?_
          refine fb_ne (tgt := 58) hx hb dX2_word_49 (by decide) (fun c_8 => ?_) (fun c_8 => ?_)
          · have hq9 : p_fk tp L b (121 - b) 18 0 = m5 := hJ5.trans (fk_t c_8)
            refine lv_aload_n hx hb dX2_word_58 rfl (lv_at hl 1 rfl) ?_
            refine lv_iload_n hx hb dX2_word_59 rfl (lv_at hl 0 rfl) ?_
            refine lv_bipush (v := 18) hx hb dX2_word_60 rfl ?_
            refine fj_ge (tgt := 69) hx hb dX2_word_62 (by decide) (fun z_9 => absurd (nI_lt (a := m5) (b := 18) (by omega) (by decide)) z_9) (fun _ => ?_)
            refine lv_iconst (v := 1) hx hb dX2_word_65 rfl ?_
            refine lv_goto (tgt := 70) hx hb dX2_word_66 (by decide) ?_
            refine fc_V (As := [.int 1]) (rest := []) hx hb hml hown hts hX hC (m_X2_need_1) (lw_V q1132 q1134 qs40 q113 q1135) hdV_X2_need ⟨rfl, rfl⟩ ⟨Nat.le_of_ble_eq_true rfl, Nat.le_of_ble_eq_true rfl⟩ (fx_recv (g := 5) (i := 2) (ci := 3) (q := (RX2, TX2, 8)) hX hC (cin rfl) rfl rfl) hl.1 rfl (Nat.le_of_ble_eq_true rfl) ⟨Nat.zero_le _, Nat.zero_le _⟩ dX2_word_70 (fun _ H locs hC => ?_)
            refine W.eq (g2 := F0 m 73 ls []) rfl ?_
            refine lv_aload_n hx hb dX2_word_73 rfl (lv_at hl 1 rfl) ?_
            refine lv_iconst (v := 2) hx hb dX2_word_74 rfl ?_
            refine fg_put (C := RX2) (T := TX2) (N := 8) (ci := 3) (g := 5) (i := 2) hx hb hown hts hX hC in_X2 tyX2 tyX2_ok nmX2 rfl (cin rfl) rfl 6 (by decide) q295 (fun _ h => h) rfl rfl rfl (Nat.le_of_ble_eq_true rfl) (cct G (pg d kp as un to (rd sc L 121 b 2 v) fd tp sh) sp) cs_rd dX2_word_75 (fun H locs hC => ?_)
            refine lv_aload_n hx hb dX2_word_78 rfl (lv_at hl 1 rfl) ?_
            refine lv_iload_n hx hb dX2_word_79 rfl (lv_at hl 0 rfl) ?_
            refine fg_put (C := RX2) (T := TX2) (N := 8) (ci := 3) (g := 5) (i := 2) hx hb hown hts hX hC in_X2 tyX2 tyX2_ok nmX2 rfl (cin rfl) rfl 7 (by decide) q296 (fun _ h => h) rfl rfl rfl (Nat.le_of_ble_eq_true rfl) (cct G (pg d kp as un to (rd sc L 121 b 2 (nI m5)) fd tp sh) sp) cs_rd dX2_word_80 (fun H locs hC => ?_)
            exact fr_v hx hb hr hlocks hX hC () rfl (congrArg (fun z => cct G (pg d kp as un to z fd tp sh) sp) (by rw [hq, hq9])) dX2_word_83
          · refine lv_iinc (v := nI (m5 + 1)) (lv' := [(1, .int (nI (m5 + 1))), (0, .ref (G.ad 5 2))]) hx hb dX2_word_52 hl (k := 0) rfl (nI_1 _) (by decide) rfl (fun ls hl => ?_)
            refine lv_goto (tgt := 29) hx hb dX2_word_55 (by decide) ?_
            exact ih5 (m5 + 1) (by omega) (hJ5.trans (fk_f c_8)) _ _ hC ls (lv_sub hl [0, 1] rfl)
      exact L_5 18 0 (by decide) rfl _ _ hC ls (lv_sub hl [0, 1] rfl)
    | succ k1 ih1 =>
      intro i1 hi1 hJ1 H locs hC ls hl
      refine lv_aload_n hx hb dX2_word_0 rfl (lv_at hl 0 rfl) ?_
      refine lv_aload_n hx hb dX2_word_1 rfl (lv_at hl 0 rfl) ?_
      refine fg_get (C := RX2) (T := TX2) (N := 8) (ci := 3) (g := 5) (i := 2) (v := .int (nI i1)) hx hb hown hts hX hC in_X2 rfl (cin rfl) rfl 4 (by decide) q292 (fun _ h => h) rfl dX2_word_2 ?_
      refine fc_V (As := [.int (nI i1)]) (rest := []) hx hb hml hown hts hX hC (m_X2_byteAt (sc := sc) (L := L) (a := i1) (b := b) (t := t) (v := v) hL i1 (by omega)) (lw_V q1075 q1077 qs37 q113 q1078) hdV_X2_byteAt ⟨rfl, rfl⟩ ⟨Nat.le_of_ble_eq_true rfl, Nat.le_of_ble_eq_true rfl⟩ (fx_recv (g := 5) (i := 2) (ci := 3) (q := (RX2, TX2, 8)) hX hC (cin rfl) rfl rfl) hl.1 rfl (Nat.le_of_ble_eq_true rfl) ⟨Nat.zero_le _, Nat.zero_le _⟩ dX2_word_5 (fun _ H locs hC => ?_)
      refine W.eq (g2 := F0 m 8 ls [.int (p_byte tp L i1)]) rfl ?_
      refine fc_S (As := [.int (p_byte tp L i1)]) (rest := []) hx hb hml hown hts hX hC (m_X2_isLetter (p_byte tp L i1)) (lw_S q1079 q1080 q113 q1081) hdS_X2_isLetter ⟨rfl, rfl⟩ ⟨Nat.le_of_ble_eq_true rfl, Nat.le_of_ble_eq_true rfl⟩ hl.1 rfl (Nat.le_of_ble_eq_true rfl) ⟨Nat.zero_le _, Nat.zero_le _⟩ dX2_word_8 (fun _ H locs hC => ?_)
      refine W.eq (g2 := F0 m 11 ls [.int (b2i (isLt (p_byte tp L i1)))]) rfl ?_
      refine fb_eq (tgt := 27) hx hb dX2_word_11 (by decide) (fun c_13 => ?_) (fun c_13 => ?_)
      · have hq : p_let tp L (121 - a) a = i1 := hJ1.trans (let_f c_13)
        have hge : a ≤ i1 := by have h8 := (let_le (tp := tp) (L := L) (121 - a) a).2; rw [hq] at h8; exact h8
        refine lv_iconst (v := 0) hx hb dX2_word_27 rfl ?_
        refine lv_istore_n (lv' := [(1, .int 0), (0, .ref (G.ad 5 2))]) hx hb dX2_word_28 rfl hl (by decide) rfl (fun ls hl => ?_)
        have L_14 : ∀ (f14 m14 : Nat), m14 + f14 = 18 → p_fk tp L b (i1 - b) 18 0 = p_fk tp L b (i1 - b) f14 m14 → ∀ (H : Heap) (locs : List Loc), fC (cF G) (cct G (pg d kp as un to (rd sc L i1 b t v) fd tp sh) sp) s.heap H locs → ∀ ls : Array Slot, lv_has ls 2 [(1, .int (nI m14)), (0, .ref (G.ad 5 2))] → WG p l e ({ frames := 5, cells := 0, slots := 0, locals := 109 }) s m (([.ref (G.ad 5 2)] : List Value).toArray) below meth c H locs (cF G) (fun _ : Unit => none) (fun _ => cct G (pg d kp as un to (rd sc L (p_let tp L (121 - a) a) b 2 (nI (p_fk tp L b (p_let tp L (121 - a) a - b) 18 0))) fd tp sh) sp) (F0 m 29 ls []) := by
          intro f14
          induction f14 with
          | zero =>
            intro m14 hi14 hJ14 H locs hC ls hl
            obtain rfl : m14 = 18 := by omega
            exact absurd hv (by rw [hq, show p_fk tp L b (i1 - b) 18 0 = 18 from hJ14]; decide)
          | succ f14 ih14 =>
            intro m14 hi14 hJ14 H locs hC ls hl
            refine lv_iload_n hx hb dX2_word_29 rfl (lv_at hl 0 rfl) ?_
            refine lv_bipush (v := 18) hx hb dX2_word_30 rfl ?_
            refine fj_ge (tgt := 58) hx hb dX2_word_32 (by decide) (fun z_15 => absurd (nI_lt (a := m14) (b := 18) (by omega) (by decide)) z_15) (fun _ => ?_)
            refine lv_aload_n hx hb dX2_word_35 rfl (lv_at hl 1 rfl) ?_
            refine lv_iload_n hx hb dX2_word_36 rfl (lv_at hl 0 rfl) ?_
            refine lv_aload_n hx hb dX2_word_37 rfl (lv_at hl 1 rfl) ?_
            refine fg_get (C := RX2) (T := TX2) (N := 8) (ci := 3) (g := 5) (i := 2) (v := .int (nI i1)) hx hb hown hts hX hC in_X2 rfl (cin rfl) rfl 4 (by decide) q292 (fun _ h => h) rfl dX2_word_38 ?_
            refine lv_aload_n hx hb dX2_word_41 rfl (lv_at hl 1 rfl) ?_
            refine fg_get (C := RX2) (T := TX2) (N := 8) (ci := 3) (g := 5) (i := 2) (v := .int (nI b)) hx hb hown hts hX hC in_X2 rfl (cin rfl) rfl 5 (by decide) q293 (fun _ h => h) rfl dX2_word_42 ?_
            refine lv_isub hx hb dX2_word_45 ?_
            rw [nI_sub (a := i1) (b := b) (by omega)]
            refine fc_V (As := [.int (nI m14), .int (nI (i1 - b))]) (rest := []) hx hb hml hown hts hX hC (m_X2_isKey (sc := sc) (L := L) (a := i1) (b := b) (t := t) (v := v) hL m14 (i1 - b) (by omega) (by omega) (by omega)) (lw_V q1087 q1089 qs39 q113 q1090) hdV_X2_isKey ⟨rfl, rfl⟩ ⟨Nat.le_of_ble_eq_true rfl, Nat.le_of_ble_eq_true rfl⟩ (fx_recv (g := 5) (i := 2) (ci := 3) (q := (RX2, TX2, 8)) hX hC (cin rfl) rfl rfl) hl.1 rfl (Nat.le_of_ble_eq_true rfl) ⟨Nat.zero_le _, Nat.zero_le _⟩ dX2_word_46 (fun _ H locs hC => ?_)
            refine W.eq (g2 := F0 m 49 ls [.int (b2i (p_key tp L b m14 (i1 - b)))]) rfl ?_
            refine fb_ne (tgt := 58) hx hb dX2_word_49 (by decide) (fun c_17 => ?_) (fun c_17 => ?_)
            · have hq9 : p_fk tp L b (i1 - b) 18 0 = m14 := hJ14.trans (fk_t c_17)
              refine lv_aload_n hx hb dX2_word_58 rfl (lv_at hl 1 rfl) ?_
              refine lv_iload_n hx hb dX2_word_59 rfl (lv_at hl 0 rfl) ?_
              refine lv_bipush (v := 18) hx hb dX2_word_60 rfl ?_
              refine fj_ge (tgt := 69) hx hb dX2_word_62 (by decide) (fun z_18 => absurd (nI_lt (a := m14) (b := 18) (by omega) (by decide)) z_18) (fun _ => ?_)
              refine lv_iconst (v := 1) hx hb dX2_word_65 rfl ?_
              refine lv_goto (tgt := 70) hx hb dX2_word_66 (by decide) ?_
              refine fc_V (As := [.int 1]) (rest := []) hx hb hml hown hts hX hC (m_X2_need_1) (lw_V q1132 q1134 qs40 q113 q1135) hdV_X2_need ⟨rfl, rfl⟩ ⟨Nat.le_of_ble_eq_true rfl, Nat.le_of_ble_eq_true rfl⟩ (fx_recv (g := 5) (i := 2) (ci := 3) (q := (RX2, TX2, 8)) hX hC (cin rfl) rfl rfl) hl.1 rfl (Nat.le_of_ble_eq_true rfl) ⟨Nat.zero_le _, Nat.zero_le _⟩ dX2_word_70 (fun _ H locs hC => ?_)
              refine W.eq (g2 := F0 m 73 ls []) rfl ?_
              refine lv_aload_n hx hb dX2_word_73 rfl (lv_at hl 1 rfl) ?_
              refine lv_iconst (v := 2) hx hb dX2_word_74 rfl ?_
              refine fg_put (C := RX2) (T := TX2) (N := 8) (ci := 3) (g := 5) (i := 2) hx hb hown hts hX hC in_X2 tyX2 tyX2_ok nmX2 rfl (cin rfl) rfl 6 (by decide) q295 (fun _ h => h) rfl rfl rfl (Nat.le_of_ble_eq_true rfl) (cct G (pg d kp as un to (rd sc L i1 b 2 v) fd tp sh) sp) cs_rd dX2_word_75 (fun H locs hC => ?_)
              refine lv_aload_n hx hb dX2_word_78 rfl (lv_at hl 1 rfl) ?_
              refine lv_iload_n hx hb dX2_word_79 rfl (lv_at hl 0 rfl) ?_
              refine fg_put (C := RX2) (T := TX2) (N := 8) (ci := 3) (g := 5) (i := 2) hx hb hown hts hX hC in_X2 tyX2 tyX2_ok nmX2 rfl (cin rfl) rfl 7 (by decide) q296 (fun _ h => h) rfl rfl rfl (Nat.le_of_ble_eq_true rfl) (cct G (pg d kp as un to (rd sc L i1 b 2 (nI m14)) fd tp sh) sp) cs_rd dX2_word_80 (fun H locs hC => ?_)
              exact fr_v hx hb hr hlocks hX hC () rfl (congrArg (fun z => cct G (pg d kp as un to z fd tp sh) sp) (by rw [hq, hq9])) dX2_word_83
            · refine lv_iinc (v := nI (m14 + 1)) (lv' := [(1, .int (nI (m14 + 1))), (0, .ref (G.ad 5 2))]) hx hb dX2_word_52 hl (k := 0) rfl (nI_1 _) (by decide) rfl (fun ls hl => ?_)
              refine lv_goto (tgt := 29) hx hb dX2_word_55 (by decide) ?_
              exact ih14 (m14 + 1) (by omega) (hJ14.trans (fk_f c_17)) _ _ hC ls (lv_sub hl [0, 1] rfl)
        exact L_14 18 0 (by decide) rfl _ _ hC ls (lv_sub hl [0, 1] rfl)
      · refine lv_aload_n hx hb dX2_word_14 rfl (lv_at hl 0 rfl) ?_
        refine lv_dup hx hb dX2_word_15 rfl ?_
        refine fg_get (C := RX2) (T := TX2) (N := 8) (ci := 3) (g := 5) (i := 2) (v := .int (nI i1)) hx hb hown hts hX hC in_X2 rfl (cin rfl) rfl 4 (by decide) q292 (fun _ h => h) rfl dX2_word_16 ?_
        refine lv_iconst (v := 1) hx hb dX2_word_19 rfl ?_
        refine lv_iadd hx hb dX2_word_20 ?_
        rw [nI_1]
        refine fg_put (C := RX2) (T := TX2) (N := 8) (ci := 3) (g := 5) (i := 2) hx hb hown hts hX hC in_X2 tyX2 tyX2_ok nmX2 rfl (cin rfl) rfl 4 (by decide) q292 (fun _ h => h) rfl rfl rfl (Nat.le_of_ble_eq_true rfl) (cct G (pg d kp as un to (rd sc L (i1 + 1) b t v) fd tp sh) sp) cs_rd dX2_word_21 (fun H locs hC => ?_)
        refine lv_goto (tgt := 0) hx hb dX2_word_24 (by decide) ?_
        have hcn := let_t (f := k1) c_13
        exact ih1 (i1 + 1) (by omega) (hJ1.trans hcn) _ _ hC ls (lv_sub hl [0] rfl)
  exact L_1 (121 - a) a (by omega) rfl _ _ hC ls (lv_sub hl [0] rfl)
set_option maxRecDepth 100000 in
theorem m_X2_word_f {l : Launch} {G : Gc} {d kp as un to sc fd tp sh : Row} {sp : Nat → Option Nat} {L a b : Nat} {t v : Int32} (hL : L ≤ 120) (ha : a ≤ 120) (hab : b ≤ a) (hv : ¬ p_fk tp L b (p_let tp L (121 - a) a - b) 18 0 < 18) : CmX l yX2_word (ws_ yX2_word cX2_word 2 none) ({ frames := 5, cells := 0, slots := 0, locals := 109 }) (cF G) [.ref (G.ad 5 2)] (cct G (pg d kp as un to (rd sc L a b t v) fd tp sh) sp) (fun _ : Unit => .threw (G.ad 5 3)) (fun _ => cct G (pg d kp as un to (rd sc L (p_let tp L (121 - a) a) b t v) fd tp sh) sp) := by
  refine CmX.start (by decide) (Nat.le_of_ble_eq_true rfl) ?_
  intro p e s m below meth c hf hE hX hC ls hl
  obtain ⟨hx, hb, hr, hml, hown, hts, hlocks⟩ := hf
  have hl : lv_has ls 2 [(0, .ref (G.ad 5 2))] := hl
  have hown : s.vm.findClass "OwlEars$Reader" = some m.cls := hown
  have L_1 : ∀ (k1 i1 : Nat), i1 + k1 = 121 → p_let tp L (121 - a) a = p_let tp L k1 i1 → ∀ (H : Heap) (locs : List Loc), fC (cF G) (cct G (pg d kp as un to (rd sc L i1 b t v) fd tp sh) sp) s.heap H locs → ∀ ls : Array Slot, lv_has ls 2 [(0, .ref (G.ad 5 2))] → WGX p l e ({ frames := 5, cells := 0, slots := 0, locals := 109 }) s m (([.ref (G.ad 5 2)] : List Value).toArray) below meth c H locs (cF G) (fun _ : Unit => .threw (G.ad 5 3)) (fun _ => cct G (pg d kp as un to (rd sc L (p_let tp L (121 - a) a) b t v) fd tp sh) sp) (F0 m 0 ls []) := by
    intro k1
    induction k1 with
    | zero =>
      intro i1 hi1 hJ1 H locs hC ls hl
      obtain rfl : i1 = 121 := by omega
      refine lv_aload_n hx hb dX2_word_0 rfl (lv_at hl 0 rfl) ?_
      refine lv_aload_n hx hb dX2_word_1 rfl (lv_at hl 0 rfl) ?_
      refine fg_get (C := RX2) (T := TX2) (N := 8) (ci := 3) (g := 5) (i := 2) (v := .int (nI 121)) hx hb hown hts hX hC in_X2 rfl (cin rfl) rfl 4 (by decide) q292 (fun _ h => h) rfl dX2_word_2 ?_
      refine fc_V (As := [.int (nI 121)]) (rest := []) hx hb hml hown hts hX hC (m_X2_byteAt (sc := sc) (L := L) (a := 121) (b := b) (t := t) (v := v) hL 121 (by omega)) (lw_V q1075 q1077 qs37 q113 q1078) hdV_X2_byteAt ⟨rfl, rfl⟩ ⟨Nat.le_of_ble_eq_true rfl, Nat.le_of_ble_eq_true rfl⟩ (fx_recv (g := 5) (i := 2) (ci := 3) (q := (RX2, TX2, 8)) hX hC (cin rfl) rfl rfl) hl.1 rfl (Nat.le_of_ble_eq_true rfl) ⟨Nat.zero_le _, Nat.zero_le _⟩ dX2_word_5 (fun _ H locs hC => ?_)
      refine W.eq (g2 := F0 m 8 ls [.int (p_byte tp L 121)]) rfl ?_
      refine fc_S (As := [.int (p_byte tp L 121)]) (rest := []) hx hb hml hown hts hX hC (m_X2_isLetter (p_byte tp L 121)) (lw_S q1079 q1080 q113 q1081) hdS_X2_isLetter ⟨rfl, rfl⟩ ⟨Nat.le_of_ble_eq_true rfl, Nat.le_of_ble_eq_true rfl⟩ hl.1 rfl (Nat.le_of_ble_eq_true rfl) ⟨Nat.zero_le _, Nat.zero_le _⟩ dX2_word_8 (fun _ H locs hC => ?_)
      refine W.eq (g2 := F0 m 11 ls [.int (b2i (isLt (p_byte tp L 121)))]) rfl ?_
      refine fb_eq (tgt := 27) hx hb dX2_word_11 (by decide) (fun _ => ?_) (fun z_4 => absurd z_4 (by rw [byte_out (by omega)]; decide))
      have hq : p_let tp L (121 - a) a = 121 := hJ1
      have hge : a ≤ 121 := by have h8 := (let_le (tp := tp) (L := L) (121 - a) a).2; rw [hq] at h8; exact h8
      refine lv_iconst (v := 0) hx hb dX2_word_27 rfl ?_
      refine lv_istore_n (lv' := [(1, .int 0), (0, .ref (G.ad 5 2))]) hx hb dX2_word_28 rfl hl (by decide) rfl (fun ls hl => ?_)
      have L_5 : ∀ (f5 m5 : Nat), m5 + f5 = 18 → p_fk tp L b (121 - b) 18 0 = p_fk tp L b (121 - b) f5 m5 → ∀ (H : Heap) (locs : List Loc), fC (cF G) (cct G (pg d kp as un to (rd sc L 121 b t v) fd tp sh) sp) s.heap H locs → ∀ ls : Array Slot, lv_has ls 2 [(1, .int (nI m5)), (0, .ref (G.ad 5 2))] → WGX p l e ({ frames := 5, cells := 0, slots := 0, locals := 109 }) s m (([.ref (G.ad 5 2)] : List Value).toArray) below meth c H locs (cF G) (fun _ : Unit => .threw (G.ad 5 3)) (fun _ => cct G (pg d kp as un to (rd sc L (p_let tp L (121 - a) a) b t v) fd tp sh) sp) (F0 m 29 ls []) := by
        intro f5
        induction f5 with
        | zero =>
          intro m5 hi5 hJ5 H locs hC ls hl
          obtain rfl : m5 = 18 := by omega
          refine lv_iload_n hx hb dX2_word_29 rfl (lv_at hl 0 rfl) ?_
          refine lv_bipush (v := 18) hx hb dX2_word_30 rfl ?_
          refine fj_ge (tgt := 58) hx hb dX2_word_32 (by decide) (fun _ => ?_) (fun z_6 => absurd z_6 (by decide))
          have hq9 : p_fk tp L b (121 - b) 18 0 = 18 := hJ5
          refine lv_aload_n hx hb dX2_word_58 rfl (lv_at hl 1 rfl) ?_
          refine lv_iload_n hx hb dX2_word_59 rfl (lv_at hl 0 rfl) ?_
          refine lv_bipush (v := 18) hx hb dX2_word_60 rfl ?_
          refine fj_ge (tgt := 69) hx hb dX2_word_62 (by decide) (fun _ => ?_) (fun z_7 => absurd z_7 (by decide))
          refine lv_iconst (v := 0) hx hb dX2_word_69 rfl ?_
          refine fc_VT (As := [.int 0]) (rest := []) hx hb hml hown hts hX hC (m_X2_need_0) (lw_V q1132 q1134 qs40 q113 q1135) hdV_X2_need ⟨rfl, rfl⟩ ⟨Nat.le_of_ble_eq_true rfl, Nat.le_of_ble_eq_true rfl⟩ (fx_recv (g := 5) (i := 2) (ci := 3) (q := (RX2, TX2, 8)) hX hC (cin rfl) rfl rfl) hl.1 rfl (Nat.le_of_ble_eq_true rfl) ⟨Nat.zero_le _, Nat.zero_le _⟩ dX2_word_70 (fun _ H locs hC => ?_)
          exact fx_out hlocks hX hC hE rfl () rfl (by rw [hq])
        | succ f5 ih5 =>
          intro m5 hi5 hJ5 H locs hC ls hl
          refine lv_iload_n hx hb dX2_word_29 rfl (lv_at hl 0 rfl) ?_
          refine lv_bipush (v := 18) hx hb dX2_word_30 rfl ?_
          refine fj_ge (tgt := 58) hx hb dX2_word_32 (by decide) (fun z_9 => absurd (nI_lt (a := m5) (b := 18) (by omega) (by decide)) z_9) (fun _ => ?_)
          refine lv_aload_n hx hb dX2_word_35 rfl (lv_at hl 1 rfl) ?_
          refine lv_iload_n hx hb dX2_word_36 rfl (lv_at hl 0 rfl) ?_
          refine lv_aload_n hx hb dX2_word_37 rfl (lv_at hl 1 rfl) ?_
          refine fg_get (C := RX2) (T := TX2) (N := 8) (ci := 3) (g := 5) (i := 2) (v := .int (nI 121)) hx hb hown hts hX hC in_X2 rfl (cin rfl) rfl 4 (by decide) q292 (fun _ h => h) rfl dX2_word_38 ?_
          refine lv_aload_n hx hb dX2_word_41 rfl (lv_at hl 1 rfl) ?_
          refine fg_get (C := RX2) (T := TX2) (N := 8) (ci := 3) (g := 5) (i := 2) (v := .int (nI b)) hx hb hown hts hX hC in_X2 rfl (cin rfl) rfl 5 (by decide) q293 (fun _ h => h) rfl dX2_word_42 ?_
          refine lv_isub hx hb dX2_word_45 ?_
          rw [nI_sub (a := 121) (b := b) (by omega)]
          refine fc_V (As := [.int (nI m5), .int (nI (121 - b))]) (rest := []) hx hb hml hown hts hX hC (m_X2_isKey (sc := sc) (L := L) (a := 121) (b := b) (t := t) (v := v) hL m5 (121 - b) (by omega) (by omega) (by omega)) (lw_V q1087 q1089 qs39 q113 q1090) hdV_X2_isKey ⟨rfl, rfl⟩ ⟨Nat.le_of_ble_eq_true rfl, Nat.le_of_ble_eq_true rfl⟩ (fx_recv (g := 5) (i := 2) (ci := 3) (q := (RX2, TX2, 8)) hX hC (cin rfl) rfl rfl) hl.1 rfl (Nat.le_of_ble_eq_true rfl) ⟨Nat.zero_le _, Nat.zero_le _⟩ dX2_word_46 (fun _ H locs hC => ?_)
          refine W.eq (g2 := F0 m 49 ls [.int (b2i (p_key tp L b m5 (121 - b)))]) rfl ?_
          refine fb_ne (tgt := 58) hx hb dX2_word_49 (by decide) (fun c_11 => ?_) (fun c_11 => ?_)
          · have hq9 : p_fk tp L b (121 - b) 18 0 = m5 := hJ5.trans (fk_t c_11)
            exact absurd (show p_fk tp L b (p_let tp L (121 - a) a - b) 18 0 < 18 by rw [hq, hq9]; omega) hv
          · refine lv_iinc (v := nI (m5 + 1)) (lv' := [(1, .int (nI (m5 + 1))), (0, .ref (G.ad 5 2))]) hx hb dX2_word_52 hl (k := 0) rfl (nI_1 _) (by decide) rfl (fun ls hl => ?_)
            refine lv_goto (tgt := 29) hx hb dX2_word_55 (by decide) ?_
            exact ih5 (m5 + 1) (by omega) (hJ5.trans (fk_f c_11)) _ _ hC ls (lv_sub hl [0, 1] rfl)
      exact L_5 18 0 (by decide) rfl _ _ hC ls (lv_sub hl [0, 1] rfl)
    | succ k1 ih1 =>
      intro i1 hi1 hJ1 H locs hC ls hl
      refine lv_aload_n hx hb dX2_word_0 rfl (lv_at hl 0 rfl) ?_
      refine lv_aload_n hx hb dX2_word_1 rfl (lv_at hl 0 rfl) ?_
      refine fg_get (C := RX2) (T := TX2) (N := 8) (ci := 3) (g := 5) (i := 2) (v := .int (nI i1)) hx hb hown hts hX hC in_X2 rfl (cin rfl) rfl 4 (by decide) q292 (fun _ h => h) rfl dX2_word_2 ?_
      refine fc_V (As := [.int (nI i1)]) (rest := []) hx hb hml hown hts hX hC (m_X2_byteAt (sc := sc) (L := L) (a := i1) (b := b) (t := t) (v := v) hL i1 (by omega)) (lw_V q1075 q1077 qs37 q113 q1078) hdV_X2_byteAt ⟨rfl, rfl⟩ ⟨Nat.le_of_ble_eq_true rfl, Nat.le_of_ble_eq_true rfl⟩ (fx_recv (g := 5) (i := 2) (ci := 3) (q := (RX2, TX2, 8)) hX hC (cin rfl) rfl rfl) hl.1 rfl (Nat.le_of_ble_eq_true rfl) ⟨Nat.zero_le _, Nat.zero_le _⟩ dX2_word_5 (fun _ H locs hC => ?_)
      refine W.eq (g2 := F0 m 8 ls [.int (p_byte tp L i1)]) rfl ?_
      refine fc_S (As := [.int (p_byte tp L i1)]) (rest := []) hx hb hml hown hts hX hC (m_X2_isLetter (p_byte tp L i1)) (lw_S q1079 q1080 q113 q1081) hdS_X2_isLetter ⟨rfl, rfl⟩ ⟨Nat.le_of_ble_eq_true rfl, Nat.le_of_ble_eq_true rfl⟩ hl.1 rfl (Nat.le_of_ble_eq_true rfl) ⟨Nat.zero_le _, Nat.zero_le _⟩ dX2_word_8 (fun _ H locs hC => ?_)
      refine W.eq (g2 := F0 m 11 ls [.int (b2i (isLt (p_byte tp L i1)))]) rfl ?_
      refine fb_eq (tgt := 27) hx hb dX2_word_11 (by decide) (fun c_14 => ?_) (fun c_14 => ?_)
      · have hq : p_let tp L (121 - a) a = i1 := hJ1.trans (let_f c_14)
        have hge : a ≤ i1 := by have h8 := (let_le (tp := tp) (L := L) (121 - a) a).2; rw [hq] at h8; exact h8
        refine lv_iconst (v := 0) hx hb dX2_word_27 rfl ?_
        refine lv_istore_n (lv' := [(1, .int 0), (0, .ref (G.ad 5 2))]) hx hb dX2_word_28 rfl hl (by decide) rfl (fun ls hl => ?_)
        have L_15 : ∀ (f15 m15 : Nat), m15 + f15 = 18 → p_fk tp L b (i1 - b) 18 0 = p_fk tp L b (i1 - b) f15 m15 → ∀ (H : Heap) (locs : List Loc), fC (cF G) (cct G (pg d kp as un to (rd sc L i1 b t v) fd tp sh) sp) s.heap H locs → ∀ ls : Array Slot, lv_has ls 2 [(1, .int (nI m15)), (0, .ref (G.ad 5 2))] → WGX p l e ({ frames := 5, cells := 0, slots := 0, locals := 109 }) s m (([.ref (G.ad 5 2)] : List Value).toArray) below meth c H locs (cF G) (fun _ : Unit => .threw (G.ad 5 3)) (fun _ => cct G (pg d kp as un to (rd sc L (p_let tp L (121 - a) a) b t v) fd tp sh) sp) (F0 m 29 ls []) := by
          intro f15
          induction f15 with
          | zero =>
            intro m15 hi15 hJ15 H locs hC ls hl
            obtain rfl : m15 = 18 := by omega
            refine lv_iload_n hx hb dX2_word_29 rfl (lv_at hl 0 rfl) ?_
            refine lv_bipush (v := 18) hx hb dX2_word_30 rfl ?_
            refine fj_ge (tgt := 58) hx hb dX2_word_32 (by decide) (fun _ => ?_) (fun z_16 => absurd z_16 (by decide))
            have hq9 : p_fk tp L b (i1 - b) 18 0 = 18 := hJ15
            refine lv_aload_n hx hb dX2_word_58 rfl (lv_at hl 1 rfl) ?_
            refine lv_iload_n hx hb dX2_word_59 rfl (lv_at hl 0 rfl) ?_
            refine lv_bipush (v := 18) hx hb dX2_word_60 rfl ?_
            refine fj_ge (tgt := 69) hx hb dX2_word_62 (by decide) (fun _ => ?_) (fun z_17 => absurd z_17 (by decide))
            refine lv_iconst (v := 0) hx hb dX2_word_69 rfl ?_
            refine fc_VT (As := [.int 0]) (rest := []) hx hb hml hown hts hX hC (m_X2_need_0) (lw_V q1132 q1134 qs40 q113 q1135) hdV_X2_need ⟨rfl, rfl⟩ ⟨Nat.le_of_ble_eq_true rfl, Nat.le_of_ble_eq_true rfl⟩ (fx_recv (g := 5) (i := 2) (ci := 3) (q := (RX2, TX2, 8)) hX hC (cin rfl) rfl rfl) hl.1 rfl (Nat.le_of_ble_eq_true rfl) ⟨Nat.zero_le _, Nat.zero_le _⟩ dX2_word_70 (fun _ H locs hC => ?_)
            exact fx_out hlocks hX hC hE rfl () rfl (by rw [hq])
          | succ f15 ih15 =>
            intro m15 hi15 hJ15 H locs hC ls hl
            refine lv_iload_n hx hb dX2_word_29 rfl (lv_at hl 0 rfl) ?_
            refine lv_bipush (v := 18) hx hb dX2_word_30 rfl ?_
            refine fj_ge (tgt := 58) hx hb dX2_word_32 (by decide) (fun z_19 => absurd (nI_lt (a := m15) (b := 18) (by omega) (by decide)) z_19) (fun _ => ?_)
            refine lv_aload_n hx hb dX2_word_35 rfl (lv_at hl 1 rfl) ?_
            refine lv_iload_n hx hb dX2_word_36 rfl (lv_at hl 0 rfl) ?_
            refine lv_aload_n hx hb dX2_word_37 rfl (lv_at hl 1 rfl) ?_
            refine fg_get (C := RX2) (T := TX2) (N := 8) (ci := 3) (g := 5) (i := 2) (v := .int (nI i1)) hx hb hown hts hX hC in_X2 rfl (cin rfl) rfl 4 (by decide) q292 (fun _ h => h) rfl dX2_word_38 ?_
            refine lv_aload_n hx hb dX2_word_41 rfl (lv_at hl 1 rfl) ?_
            refine fg_get (C := RX2) (T := TX2) (N := 8) (ci := 3) (g := 5) (i := 2) (v := .int (nI b)) hx hb hown hts hX hC in_X2 rfl (cin rfl) rfl 5 (by decide) q293 (fun _ h => h) rfl dX2_word_42 ?_
            refine lv_isub hx hb dX2_word_45 ?_
            rw [nI_sub (a := i1) (b := b) (by omega)]
            refine fc_V (As := [.int (nI m15), .int (nI (i1 - b))]) (rest := []) hx hb hml hown hts hX hC (m_X2_isKey (sc := sc) (L := L) (a := i1) (b := b) (t := t) (v := v) hL m15 (i1 - b) (by omega) (by omega) (by omega)) (lw_V q1087 q1089 qs39 q113 q1090) hdV_X2_isKey ⟨rfl, rfl⟩ ⟨Nat.le_of_ble_eq_true rfl, Nat.le_of_ble_eq_true rfl⟩ (fx_recv (g := 5) (i := 2) (ci := 3) (q := (RX2, TX2, 8)) hX hC (cin rfl) rfl rfl) hl.1 rfl (Nat.le_of_ble_eq_true rfl) ⟨Nat.zero_le _, Nat.zero_le _⟩ dX2_word_46 (fun _ H locs hC => ?_)
            refine W.eq (g2 := F0 m 49 ls [.int (b2i (p_key tp L b m15 (i1 - b)))]) rfl ?_
            refine fb_ne (tgt := 58) hx hb dX2_word_49 (by decide) (fun c_21 => ?_) (fun c_21 => ?_)
            · have hq9 : p_fk tp L b (i1 - b) 18 0 = m15 := hJ15.trans (fk_t c_21)
              exact absurd (show p_fk tp L b (p_let tp L (121 - a) a - b) 18 0 < 18 by rw [hq, hq9]; omega) hv
            · refine lv_iinc (v := nI (m15 + 1)) (lv' := [(1, .int (nI (m15 + 1))), (0, .ref (G.ad 5 2))]) hx hb dX2_word_52 hl (k := 0) rfl (nI_1 _) (by decide) rfl (fun ls hl => ?_)
              refine lv_goto (tgt := 29) hx hb dX2_word_55 (by decide) ?_
              exact ih15 (m15 + 1) (by omega) (hJ15.trans (fk_f c_21)) _ _ hC ls (lv_sub hl [0, 1] rfl)
        exact L_15 18 0 (by decide) rfl _ _ hC ls (lv_sub hl [0, 1] rfl)
      · refine lv_aload_n hx hb dX2_word_14 rfl (lv_at hl 0 rfl) ?_
        refine lv_dup hx hb dX2_word_15 rfl ?_
        refine fg_get (C := RX2) (T := TX2) (N := 8) (ci := 3) (g := 5) (i := 2) (v := .int (nI i1)) hx hb hown hts hX hC in_X2 rfl (cin rfl) rfl 4 (by decide) q292 (fun _ h => h) rfl dX2_word_16 ?_
        refine lv_iconst (v := 1) hx hb dX2_word_19 rfl ?_
        refine lv_iadd hx hb dX2_word_20 ?_
        rw [nI_1]
        refine fg_put (C := RX2) (T := TX2) (N := 8) (ci := 3) (g := 5) (i := 2) hx hb hown hts hX hC in_X2 tyX2 tyX2_ok nmX2 rfl (cin rfl) rfl 4 (by decide) q292 (fun _ h => h) rfl rfl rfl (Nat.le_of_ble_eq_true rfl) (cct G (pg d kp as un to (rd sc L (i1 + 1) b t v) fd tp sh) sp) cs_rd dX2_word_21 (fun H locs hC => ?_)
        refine lv_goto (tgt := 0) hx hb dX2_word_24 (by decide) ?_
        have hcn := let_t (f := k1) c_14
        exact ih1 (i1 + 1) (by omega) (hJ1.trans hcn) _ _ hC ls (lv_sub hl [0] rfl)
  exact L_1 (121 - a) a (by omega) rfl _ _ hC ls (lv_sub hl [0] rfl)
