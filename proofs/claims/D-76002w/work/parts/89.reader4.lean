theorem hdV_X2_digits : yX2_digits.cls = RX2 ∧ yX2_digits.cls ≠ "java/lang/invoke/MethodHandle" ∧ yX2_digits.cls ≠ "java/lang/invoke/VarHandle" ∧ (parseMethodDescriptor yX2_digits.desc).map (fun d => d.parameters.length) = some 0 := by decide +kernel
theorem hdV_X2_word : yX2_word.cls = RX2 ∧ yX2_word.cls ≠ "java/lang/invoke/MethodHandle" ∧ yX2_word.cls ≠ "java/lang/invoke/VarHandle" ∧ (parseMethodDescriptor yX2_word.desc).map (fun d => d.parameters.length) = some 0 := by decide +kernel
set_option maxRecDepth 100000 in
theorem m_X2_next_t {l : Launch} {G : Gc} {d kp as un to sc fd tp sh : Row} {sp : Nat → Option Nat} {L a b : Nat} {t v : Int32} (hL : L ≤ 120) (ha : a ≤ 120) (hv : (p_tok tp L (p_blk tp L (121 - a) a) t v).2.2.2 = true) : Cm l yX2_next (ws_ yX2_next cX2_next 2 none) ({ frames := 6, cells := 0, slots := 0, locals := 130 }) (cF G) [.ref (G.ad 5 2)] (cct G (pg d kp as un to (rd sc L a b t v) fd tp sh) sp) (fun _ : Unit => none) (fun _ => cct G (pg d kp as un to (rd sc L ((p_tok tp L (p_blk tp L (121 - a) a) t v).1) (p_blk tp L (121 - a) a) ((p_tok tp L (p_blk tp L (121 - a) a) t v).2.1) ((p_tok tp L (p_blk tp L (121 - a) a) t v).2.2.1)) fd tp sh) sp) := by
  refine Cm.start (by decide) (Nat.le_of_ble_eq_true rfl) ?_
  intro p e s m below meth c hf hX hC ls hl
  obtain ⟨hx, hb, hr, hml, hown, hts, hlocks⟩ := hf
  have hl : lv_has ls 2 [(0, .ref (G.ad 5 2))] := hl
  have hown : s.vm.findClass "OwlEars$Reader" = some m.cls := hown
  have L_1 : ∀ (k1 i1 : Nat), i1 + k1 = 121 → p_blk tp L (121 - a) a = p_blk tp L k1 i1 → ∀ (H : Heap) (locs : List Loc), fC (cF G) (cct G (pg d kp as un to (rd sc L i1 b t v) fd tp sh) sp) s.heap H locs → ∀ ls : Array Slot, lv_has ls 2 [(0, .ref (G.ad 5 2))] → WG p l e ({ frames := 6, cells := 0, slots := 0, locals := 130 }) s m (([.ref (G.ad 5 2)] : List Value).toArray) below meth c H locs (cF G) (fun _ : Unit => none) (fun _ => cct G (pg d kp as un to (rd sc L ((p_tok tp L (p_blk tp L (121 - a) a) t v).1) (p_blk tp L (121 - a) a) ((p_tok tp L (p_blk tp L (121 - a) a) t v).2.1) ((p_tok tp L (p_blk tp L (121 - a) a) t v).2.2.1)) fd tp sh) sp) (F0 m 0 ls []) := by
    intro k1
    induction k1 with
    | zero =>
      intro i1 hi1 hJ1 H locs hC ls hl
      obtain rfl : i1 = 121 := by omega
      refine lv_aload_n hx hb dX2_next_0 rfl (lv_at hl 0 rfl) ?_
      refine lv_aload_n hx hb dX2_next_1 rfl (lv_at hl 0 rfl) ?_
      refine fg_get (C := RX2) (T := TX2) (N := 8) (ci := 3) (g := 5) (i := 2) (v := .int (nI 121)) hx hb hown hts hX hC in_X2 rfl (cin rfl) rfl 4 (by decide) q292 (fun _ h => h) rfl dX2_next_2 ?_
      refine fc_V (As := [.int (nI 121)]) (rest := []) hx hb hml hown hts hX hC (m_X2_byteAt (sc := sc) (L := L) (a := 121) (b := b) (t := t) (v := v) hL 121 (by omega)) (lw_V q1075 q1077 qs37 q113 q1078) hdV_X2_byteAt ⟨rfl, rfl⟩ ⟨Nat.le_of_ble_eq_true rfl, Nat.le_of_ble_eq_true rfl⟩ (fx_recv (g := 5) (i := 2) (ci := 3) (q := (RX2, TX2, 8)) hX hC (cin rfl) rfl rfl) hl.1 rfl (Nat.le_of_ble_eq_true rfl) ⟨Nat.zero_le _, Nat.zero_le _⟩ dX2_next_5 (fun _ H locs hC => ?_)
      refine W.eq (g2 := F0 m 8 ls [.int (p_byte tp L 121)]) rfl ?_
      refine lv_bipush (v := 32) hx hb dX2_next_8 rfl ?_
      refine lv_icmp_ne (tgt := 26) hx hb dX2_next_10 (by decide) (fun _ => ?_) (fun z_3 => absurd z_3 (by rw [byte_out (by omega)]; decide))
      have hq : p_blk tp L (121 - a) a = 121 := hJ1
      refine lv_aload_n hx hb dX2_next_26 rfl (lv_at hl 0 rfl) ?_
      refine lv_aload_n hx hb dX2_next_27 rfl (lv_at hl 0 rfl) ?_
      refine fg_get (C := RX2) (T := TX2) (N := 8) (ci := 3) (g := 5) (i := 2) (v := .int (nI 121)) hx hb hown hts hX hC in_X2 rfl (cin rfl) rfl 4 (by decide) q292 (fun _ h => h) rfl dX2_next_28 ?_
      refine fg_put (C := RX2) (T := TX2) (N := 8) (ci := 3) (g := 5) (i := 2) hx hb hown hts hX hC in_X2 tyX2 tyX2_ok nmX2 rfl (cin rfl) rfl 5 (by decide) q293 (fun _ h => h) rfl rfl rfl (Nat.le_of_ble_eq_true rfl) (cct G (pg d kp as un to (rd sc L 121 121 t v) fd tp sh) sp) cs_rd dX2_next_31 (fun H locs hC => ?_)
      refine lv_aload_n hx hb dX2_next_34 rfl (lv_at hl 0 rfl) ?_
      refine lv_aload_n hx hb dX2_next_35 rfl (lv_at hl 0 rfl) ?_
      refine fg_get (C := RX2) (T := TX2) (N := 8) (ci := 3) (g := 5) (i := 2) (v := .int (nI 121)) hx hb hown hts hX hC in_X2 rfl (cin rfl) rfl 4 (by decide) q292 (fun _ h => h) rfl dX2_next_36 ?_
      refine fc_V (As := [.int (nI 121)]) (rest := []) hx hb hml hown hts hX hC (m_X2_byteAt (sc := sc) (L := L) (a := 121) (b := 121) (t := t) (v := v) hL 121 (by omega)) (lw_V q1075 q1077 qs37 q113 q1078) hdV_X2_byteAt ⟨rfl, rfl⟩ ⟨Nat.le_of_ble_eq_true rfl, Nat.le_of_ble_eq_true rfl⟩ (fx_recv (g := 5) (i := 2) (ci := 3) (q := (RX2, TX2, 8)) hX hC (cin rfl) rfl rfl) hl.1 rfl (Nat.le_of_ble_eq_true rfl) ⟨Nat.zero_le _, Nat.zero_le _⟩ dX2_next_39 (fun _ H locs hC => ?_)
      refine W.eq (g2 := F0 m 42 ls [.int (p_byte tp L 121)]) rfl ?_
      refine lv_istore_n (lv' := [(1, .int (p_byte tp L 121)), (0, .ref (G.ad 5 2))]) hx hb dX2_next_42 rfl hl (by decide) rfl (fun ls hl => ?_)
      refine lv_iload_n hx hb dX2_next_43 rfl (lv_at hl 0 rfl) ?_
      refine fi_ge (tgt := 55) hx hb dX2_next_44 (by decide) (fun c_5 => ?_) (fun c_5 => ?_)
      · have hin : 121 ≤ 120 := by have h8 := byte_in c_5; omega
        refine lv_iload_n hx hb dX2_next_55 rfl (lv_at hl 0 rfl) ?_
        refine fc_S (As := [.int (p_byte tp L 121)]) (rest := []) hx hb hml hown hts hX hC (m_X2_isLetter (p_byte tp L 121)) (lw_S q1079 q1080 q113 q1081) hdS_X2_isLetter ⟨rfl, rfl⟩ ⟨Nat.le_of_ble_eq_true rfl, Nat.le_of_ble_eq_true rfl⟩ hl.1 rfl (Nat.le_of_ble_eq_true rfl) ⟨Nat.zero_le _, Nat.zero_le _⟩ dX2_next_56 (fun _ H locs hC => ?_)
        refine W.eq (g2 := F0 m 59 ls [.int (b2i (isLt (p_byte tp L 121)))]) rfl ?_
        refine fb_eq (tgt := 69) hx hb dX2_next_59 (by decide) (fun c_7 => ?_) (fun c_7 => ?_)
        · refine lv_iload_n hx hb dX2_next_69 rfl (lv_at hl 0 rfl) ?_
          refine fc_S (As := [.int (p_byte tp L 121)]) (rest := []) hx hb hml hown hts hX hC (m_X2_isDigit (p_byte tp L 121)) (lw_S q1136 q1137 q113 q1138) hdS_X2_isDigit ⟨rfl, rfl⟩ ⟨Nat.le_of_ble_eq_true rfl, Nat.le_of_ble_eq_true rfl⟩ hl.1 rfl (Nat.le_of_ble_eq_true rfl) ⟨Nat.zero_le _, Nat.zero_le _⟩ dX2_next_70 (fun _ H locs hC => ?_)
          refine W.eq (g2 := F0 m 73 ls [.int (b2i (isDg (p_byte tp L 121)))]) rfl ?_
          refine fb_eq (tgt := 83) hx hb dX2_next_73 (by decide) (fun c_9 => ?_) (fun c_9 => ?_)
          · refine lv_aload_n hx hb dX2_next_83 rfl (lv_at hl 1 rfl) ?_
            refine lv_iload_n hx hb dX2_next_84 rfl (lv_at hl 0 rfl) ?_
            refine lv_bipush (v := 59) hx hb dX2_next_85 rfl ?_
            refine lv_icmp_ne (tgt := 94) hx hb dX2_next_87 (by decide) (fun c_10 => ?_) (fun c_10 => ?_)
            · refine lv_iconst (v := 0) hx hb dX2_next_94 rfl ?_
              rw [hq, p_tok, if_neg c_5, if_neg c_7, if_neg c_9, if_neg c_10] at hv
              exact absurd (show false = true from hv) (by decide)
            · refine lv_iconst (v := 1) hx hb dX2_next_90 rfl ?_
              refine lv_goto (tgt := 95) hx hb dX2_next_91 (by decide) ?_
              refine fc_V (As := [.int 1]) (rest := []) hx hb hml hown hts hX hC (m_X2_need_1) (lw_V q1132 q1134 qs40 q113 q1135) hdV_X2_need ⟨rfl, rfl⟩ ⟨Nat.le_of_ble_eq_true rfl, Nat.le_of_ble_eq_true rfl⟩ (fx_recv (g := 5) (i := 2) (ci := 3) (q := (RX2, TX2, 8)) hX hC (cin rfl) rfl rfl) hl.1 rfl (Nat.le_of_ble_eq_true rfl) ⟨Nat.zero_le _, Nat.zero_le _⟩ dX2_next_95 (fun _ H locs hC => ?_)
              refine W.eq (g2 := F0 m 98 ls []) rfl ?_
              refine lv_aload_n hx hb dX2_next_98 rfl (lv_at hl 1 rfl) ?_
              refine lv_iconst (v := 3) hx hb dX2_next_99 rfl ?_
              refine fg_put (C := RX2) (T := TX2) (N := 8) (ci := 3) (g := 5) (i := 2) hx hb hown hts hX hC in_X2 tyX2 tyX2_ok nmX2 rfl (cin rfl) rfl 6 (by decide) q295 (fun _ h => h) rfl rfl rfl (Nat.le_of_ble_eq_true rfl) (cct G (pg d kp as un to (rd sc L 121 121 3 v) fd tp sh) sp) cs_rd dX2_next_100 (fun H locs hC => ?_)
              refine lv_aload_n hx hb dX2_next_103 rfl (lv_at hl 1 rfl) ?_
              refine lv_dup hx hb dX2_next_104 rfl ?_
              refine fg_get (C := RX2) (T := TX2) (N := 8) (ci := 3) (g := 5) (i := 2) (v := .int (nI 121)) hx hb hown hts hX hC in_X2 rfl (cin rfl) rfl 4 (by decide) q292 (fun _ h => h) rfl dX2_next_105 ?_
              refine lv_iconst (v := 1) hx hb dX2_next_108 rfl ?_
              refine lv_iadd hx hb dX2_next_109 ?_
              rw [nI_1]
              refine fg_put (C := RX2) (T := TX2) (N := 8) (ci := 3) (g := 5) (i := 2) hx hb hown hts hX hC in_X2 tyX2 tyX2_ok nmX2 rfl (cin rfl) rfl 4 (by decide) q292 (fun _ h => h) rfl rfl rfl (Nat.le_of_ble_eq_true rfl) (cct G (pg d kp as un to (rd sc L (121 + 1) 121 3 v) fd tp sh) sp) cs_rd dX2_next_110 (fun H locs hC => ?_)
              have htk : p_tok tp L 121 t v = ((121 + 1, 3, v, true) : Nat × Int32 × Int32 × Bool) := by rw [p_tok, if_neg c_5, if_neg c_7, if_neg c_9, if_pos c_10]
              exact fr_v hx hb hr hlocks hX hC () rfl (congrArg (fun z => cct G (pg d kp as un to z fd tp sh) sp) (by rw [hq, htk])) dX2_next_113
          · by_cases hd9 : 999 < (p_dig tp L (121 - 121) 121 0).2
            · rw [hq, p_tok, if_neg c_5, if_neg c_7, if_pos c_9, if_pos hd9] at hv
              exact absurd (show false = true from hv) (by decide)
            · refine lv_aload_n hx hb dX2_next_76 rfl (lv_at hl 1 rfl) ?_
              refine fc_V (As := []) (rest := []) hx hb hml hown hts hX hC (m_X2_digits_t (sc := sc) (L := L) (a := 121) (b := 121) (t := t) (v := v) hL hin hd9) (lw_V q1139 q1141 qs41 q113 q1142) hdV_X2_digits ⟨rfl, rfl⟩ ⟨Nat.le_of_ble_eq_true rfl, Nat.le_of_ble_eq_true rfl⟩ (fx_recv (g := 5) (i := 2) (ci := 3) (q := (RX2, TX2, 8)) hX hC (cin rfl) rfl rfl) hl.1 rfl (Nat.le_of_ble_eq_true rfl) ⟨Nat.zero_le _, Nat.zero_le _⟩ dX2_next_77 (fun _ H locs hC => ?_)
              refine W.eq (g2 := F0 m 80 ls []) rfl ?_
              refine lv_goto (tgt := 113) hx hb dX2_next_80 (by decide) ?_
              have htk : p_tok tp L 121 t v = (((p_dig tp L (121 - 121) 121 0).1, 1, (p_dig tp L (121 - 121) 121 0).2, true) : Nat × Int32 × Int32 × Bool) := by rw [p_tok, if_neg c_5, if_neg c_7, if_pos c_9, if_neg hd9]
              exact fr_v hx hb hr hlocks hX hC () rfl (congrArg (fun z => cct G (pg d kp as un to z fd tp sh) sp) (by rw [hq, htk])) dX2_next_113
        · by_cases hw9 : p_fk tp L 121 (p_let tp L (121 - 121) 121 - 121) 18 0 < 18
          · refine lv_aload_n hx hb dX2_next_62 rfl (lv_at hl 1 rfl) ?_
            refine fc_V (As := []) (rest := []) hx hb hml hown hts hX hC (m_X2_word_t (sc := sc) (L := L) (a := 121) (b := 121) (t := t) (v := v) hL hin (Nat.le_refl _) hw9) (lw_V q1083 q1085 qs38 q113 q1086) hdV_X2_word ⟨rfl, rfl⟩ ⟨Nat.le_of_ble_eq_true rfl, Nat.le_of_ble_eq_true rfl⟩ (fx_recv (g := 5) (i := 2) (ci := 3) (q := (RX2, TX2, 8)) hX hC (cin rfl) rfl rfl) hl.1 rfl (Nat.le_of_ble_eq_true rfl) ⟨Nat.zero_le _, Nat.zero_le _⟩ dX2_next_63 (fun _ H locs hC => ?_)
            refine W.eq (g2 := F0 m 66 ls []) rfl ?_
            refine lv_goto (tgt := 113) hx hb dX2_next_66 (by decide) ?_
            have htk : p_tok tp L 121 t v = ((p_let tp L (121 - 121) 121, 2, nI (p_fk tp L 121 (p_let tp L (121 - 121) 121 - 121) 18 0), true) : Nat × Int32 × Int32 × Bool) := by rw [p_tok, if_neg c_5, if_pos c_7, if_pos hw9]
            exact fr_v hx hb hr hlocks hX hC () rfl (congrArg (fun z => cct G (pg d kp as un to z fd tp sh) sp) (by rw [hq, htk])) dX2_next_113
          · rw [hq, p_tok, if_neg c_5, if_pos c_7, if_neg hw9] at hv
            exact absurd (show false = true from hv) (by decide)
      · refine lv_aload_n hx hb dX2_next_47 rfl (lv_at hl 1 rfl) ?_
        refine lv_iconst (v := 0) hx hb dX2_next_48 rfl ?_
        refine fg_put (C := RX2) (T := TX2) (N := 8) (ci := 3) (g := 5) (i := 2) hx hb hown hts hX hC in_X2 tyX2 tyX2_ok nmX2 rfl (cin rfl) rfl 6 (by decide) q295 (fun _ h => h) rfl rfl rfl (Nat.le_of_ble_eq_true rfl) (cct G (pg d kp as un to (rd sc L 121 121 0 v) fd tp sh) sp) cs_rd dX2_next_49 (fun H locs hC => ?_)
        refine lv_goto (tgt := 113) hx hb dX2_next_52 (by decide) ?_
        have htk : p_tok tp L 121 t v = ((121, 0, v, true) : Nat × Int32 × Int32 × Bool) := by rw [p_tok, if_pos c_5]
        exact fr_v hx hb hr hlocks hX hC () rfl (congrArg (fun z => cct G (pg d kp as un to z fd tp sh) sp) (by rw [hq, htk])) dX2_next_113
    | succ k1 ih1 =>
      intro i1 hi1 hJ1 H locs hC ls hl
      refine lv_aload_n hx hb dX2_next_0 rfl (lv_at hl 0 rfl) ?_
      refine lv_aload_n hx hb dX2_next_1 rfl (lv_at hl 0 rfl) ?_
      refine fg_get (C := RX2) (T := TX2) (N := 8) (ci := 3) (g := 5) (i := 2) (v := .int (nI i1)) hx hb hown hts hX hC in_X2 rfl (cin rfl) rfl 4 (by decide) q292 (fun _ h => h) rfl dX2_next_2 ?_
      refine fc_V (As := [.int (nI i1)]) (rest := []) hx hb hml hown hts hX hC (m_X2_byteAt (sc := sc) (L := L) (a := i1) (b := b) (t := t) (v := v) hL i1 (by omega)) (lw_V q1075 q1077 qs37 q113 q1078) hdV_X2_byteAt ⟨rfl, rfl⟩ ⟨Nat.le_of_ble_eq_true rfl, Nat.le_of_ble_eq_true rfl⟩ (fx_recv (g := 5) (i := 2) (ci := 3) (q := (RX2, TX2, 8)) hX hC (cin rfl) rfl rfl) hl.1 rfl (Nat.le_of_ble_eq_true rfl) ⟨Nat.zero_le _, Nat.zero_le _⟩ dX2_next_5 (fun _ H locs hC => ?_)
      refine W.eq (g2 := F0 m 8 ls [.int (p_byte tp L i1)]) rfl ?_
      refine lv_bipush (v := 32) hx hb dX2_next_8 rfl ?_
      refine lv_icmp_ne (tgt := 26) hx hb dX2_next_10 (by decide) (fun c_15 => ?_) (fun c_15 => ?_)
      · have hq : p_blk tp L (121 - a) a = i1 := hJ1.trans (blk_f c_15)
        refine lv_aload_n hx hb dX2_next_26 rfl (lv_at hl 0 rfl) ?_
        refine lv_aload_n hx hb dX2_next_27 rfl (lv_at hl 0 rfl) ?_
        refine fg_get (C := RX2) (T := TX2) (N := 8) (ci := 3) (g := 5) (i := 2) (v := .int (nI i1)) hx hb hown hts hX hC in_X2 rfl (cin rfl) rfl 4 (by decide) q292 (fun _ h => h) rfl dX2_next_28 ?_
        refine fg_put (C := RX2) (T := TX2) (N := 8) (ci := 3) (g := 5) (i := 2) hx hb hown hts hX hC in_X2 tyX2 tyX2_ok nmX2 rfl (cin rfl) rfl 5 (by decide) q293 (fun _ h => h) rfl rfl rfl (Nat.le_of_ble_eq_true rfl) (cct G (pg d kp as un to (rd sc L i1 i1 t v) fd tp sh) sp) cs_rd dX2_next_31 (fun H locs hC => ?_)
        refine lv_aload_n hx hb dX2_next_34 rfl (lv_at hl 0 rfl) ?_
        refine lv_aload_n hx hb dX2_next_35 rfl (lv_at hl 0 rfl) ?_
        refine fg_get (C := RX2) (T := TX2) (N := 8) (ci := 3) (g := 5) (i := 2) (v := .int (nI i1)) hx hb hown hts hX hC in_X2 rfl (cin rfl) rfl 4 (by decide) q292 (fun _ h => h) rfl dX2_next_36 ?_
        refine fc_V (As := [.int (nI i1)]) (rest := []) hx hb hml hown hts hX hC (m_X2_byteAt (sc := sc) (L := L) (a := i1) (b := i1) (t := t) (v := v) hL i1 (by omega)) (lw_V q1075 q1077 qs37 q113 q1078) hdV_X2_byteAt ⟨rfl, rfl⟩ ⟨Nat.le_of_ble_eq_true rfl, Nat.le_of_ble_eq_true rfl⟩ (fx_recv (g := 5) (i := 2) (ci := 3) (q := (RX2, TX2, 8)) hX hC (cin rfl) rfl rfl) hl.1 rfl (Nat.le_of_ble_eq_true rfl) ⟨Nat.zero_le _, Nat.zero_le _⟩ dX2_next_39 (fun _ H locs hC => ?_)
        refine W.eq (g2 := F0 m 42 ls [.int (p_byte tp L i1)]) rfl ?_
        refine lv_istore_n (lv' := [(1, .int (p_byte tp L i1)), (0, .ref (G.ad 5 2))]) hx hb dX2_next_42 rfl hl (by decide) rfl (fun ls hl => ?_)
        refine lv_iload_n hx hb dX2_next_43 rfl (lv_at hl 0 rfl) ?_
        refine fi_ge (tgt := 55) hx hb dX2_next_44 (by decide) (fun c_17 => ?_) (fun c_17 => ?_)
        · have hin : i1 ≤ 120 := by have h8 := byte_in c_17; omega
          refine lv_iload_n hx hb dX2_next_55 rfl (lv_at hl 0 rfl) ?_
          refine fc_S (As := [.int (p_byte tp L i1)]) (rest := []) hx hb hml hown hts hX hC (m_X2_isLetter (p_byte tp L i1)) (lw_S q1079 q1080 q113 q1081) hdS_X2_isLetter ⟨rfl, rfl⟩ ⟨Nat.le_of_ble_eq_true rfl, Nat.le_of_ble_eq_true rfl⟩ hl.1 rfl (Nat.le_of_ble_eq_true rfl) ⟨Nat.zero_le _, Nat.zero_le _⟩ dX2_next_56 (fun _ H locs hC => ?_)
          refine W.eq (g2 := F0 m 59 ls [.int (b2i (isLt (p_byte tp L i1)))]) rfl ?_
          refine fb_eq (tgt := 69) hx hb dX2_next_59 (by decide) (fun c_19 => ?_) (fun c_19 => ?_)
          · refine lv_iload_n hx hb dX2_next_69 rfl (lv_at hl 0 rfl) ?_
            refine fc_S (As := [.int (p_byte tp L i1)]) (rest := []) hx hb hml hown hts hX hC (m_X2_isDigit (p_byte tp L i1)) (lw_S q1136 q1137 q113 q1138) hdS_X2_isDigit ⟨rfl, rfl⟩ ⟨Nat.le_of_ble_eq_true rfl, Nat.le_of_ble_eq_true rfl⟩ hl.1 rfl (Nat.le_of_ble_eq_true rfl) ⟨Nat.zero_le _, Nat.zero_le _⟩ dX2_next_70 (fun _ H locs hC => ?_)
            refine W.eq (g2 := F0 m 73 ls [.int (b2i (isDg (p_byte tp L i1)))]) rfl ?_
            refine fb_eq (tgt := 83) hx hb dX2_next_73 (by decide) (fun c_21 => ?_) (fun c_21 => ?_)
            · refine lv_aload_n hx hb dX2_next_83 rfl (lv_at hl 1 rfl) ?_
              refine lv_iload_n hx hb dX2_next_84 rfl (lv_at hl 0 rfl) ?_
              refine lv_bipush (v := 59) hx hb dX2_next_85 rfl ?_
              refine lv_icmp_ne (tgt := 94) hx hb dX2_next_87 (by decide) (fun c_22 => ?_) (fun c_22 => ?_)
              · refine lv_iconst (v := 0) hx hb dX2_next_94 rfl ?_
                rw [hq, p_tok, if_neg c_17, if_neg c_19, if_neg c_21, if_neg c_22] at hv
                exact absurd (show false = true from hv) (by decide)
              · refine lv_iconst (v := 1) hx hb dX2_next_90 rfl ?_
                refine lv_goto (tgt := 95) hx hb dX2_next_91 (by decide) ?_
                refine fc_V (As := [.int 1]) (rest := []) hx hb hml hown hts hX hC (m_X2_need_1) (lw_V q1132 q1134 qs40 q113 q1135) hdV_X2_need ⟨rfl, rfl⟩ ⟨Nat.le_of_ble_eq_true rfl, Nat.le_of_ble_eq_true rfl⟩ (fx_recv (g := 5) (i := 2) (ci := 3) (q := (RX2, TX2, 8)) hX hC (cin rfl) rfl rfl) hl.1 rfl (Nat.le_of_ble_eq_true rfl) ⟨Nat.zero_le _, Nat.zero_le _⟩ dX2_next_95 (fun _ H locs hC => ?_)
                refine W.eq (g2 := F0 m 98 ls []) rfl ?_
                refine lv_aload_n hx hb dX2_next_98 rfl (lv_at hl 1 rfl) ?_
                refine lv_iconst (v := 3) hx hb dX2_next_99 rfl ?_
                refine fg_put (C := RX2) (T := TX2) (N := 8) (ci := 3) (g := 5) (i := 2) hx hb hown hts hX hC in_X2 tyX2 tyX2_ok nmX2 rfl (cin rfl) rfl 6 (by decide) q295 (fun _ h => h) rfl rfl rfl (Nat.le_of_ble_eq_true rfl) (cct G (pg d kp as un to (rd sc L i1 i1 3 v) fd tp sh) sp) cs_rd dX2_next_100 (fun H locs hC => ?_)
                refine lv_aload_n hx hb dX2_next_103 rfl (lv_at hl 1 rfl) ?_
                refine lv_dup hx hb dX2_next_104 rfl ?_
                refine fg_get (C := RX2) (T := TX2) (N := 8) (ci := 3) (g := 5) (i := 2) (v := .int (nI i1)) hx hb hown hts hX hC in_X2 rfl (cin rfl) rfl 4 (by decide) q292 (fun _ h => h) rfl dX2_next_105 ?_
                refine lv_iconst (v := 1) hx hb dX2_next_108 rfl ?_
                refine lv_iadd hx hb dX2_next_109 ?_
                rw [nI_1]
                refine fg_put (C := RX2) (T := TX2) (N := 8) (ci := 3) (g := 5) (i := 2) hx hb hown hts hX hC in_X2 tyX2 tyX2_ok nmX2 rfl (cin rfl) rfl 4 (by decide) q292 (fun _ h => h) rfl rfl rfl (Nat.le_of_ble_eq_true rfl) (cct G (pg d kp as un to (rd sc L (i1 + 1) i1 3 v) fd tp sh) sp) cs_rd dX2_next_110 (fun H locs hC => ?_)
                have htk : p_tok tp L i1 t v = ((i1 + 1, 3, v, true) : Nat × Int32 × Int32 × Bool) := by rw [p_tok, if_neg c_17, if_neg c_19, if_neg c_21, if_pos c_22]
                exact fr_v hx hb hr hlocks hX hC () rfl (congrArg (fun z => cct G (pg d kp as un to z fd tp sh) sp) (by rw [hq, htk])) dX2_next_113
            · by_cases hd9 : 999 < (p_dig tp L (121 - i1) i1 0).2
              · rw [hq, p_tok, if_neg c_17, if_neg c_19, if_pos c_21, if_pos hd9] at hv
                exact absurd (show false = true from hv) (by decide)
              · refine lv_aload_n hx hb dX2_next_76 rfl (lv_at hl 1 rfl) ?_
                refine fc_V (As := []) (rest := []) hx hb hml hown hts hX hC (m_X2_digits_t (sc := sc) (L := L) (a := i1) (b := i1) (t := t) (v := v) hL hin hd9) (lw_V q1139 q1141 qs41 q113 q1142) hdV_X2_digits ⟨rfl, rfl⟩ ⟨Nat.le_of_ble_eq_true rfl, Nat.le_of_ble_eq_true rfl⟩ (fx_recv (g := 5) (i := 2) (ci := 3) (q := (RX2, TX2, 8)) hX hC (cin rfl) rfl rfl) hl.1 rfl (Nat.le_of_ble_eq_true rfl) ⟨Nat.zero_le _, Nat.zero_le _⟩ dX2_next_77 (fun _ H locs hC => ?_)
                refine W.eq (g2 := F0 m 80 ls []) rfl ?_
                refine lv_goto (tgt := 113) hx hb dX2_next_80 (by decide) ?_
                have htk : p_tok tp L i1 t v = (((p_dig tp L (121 - i1) i1 0).1, 1, (p_dig tp L (121 - i1) i1 0).2, true) : Nat × Int32 × Int32 × Bool) := by rw [p_tok, if_neg c_17, if_neg c_19, if_pos c_21, if_neg hd9]
                exact fr_v hx hb hr hlocks hX hC () rfl (congrArg (fun z => cct G (pg d kp as un to z fd tp sh) sp) (by rw [hq, htk])) dX2_next_113
          · by_cases hw9 : p_fk tp L i1 (p_let tp L (121 - i1) i1 - i1) 18 0 < 18
            · refine lv_aload_n hx hb dX2_next_62 rfl (lv_at hl 1 rfl) ?_
              refine fc_V (As := []) (rest := []) hx hb hml hown hts hX hC (m_X2_word_t (sc := sc) (L := L) (a := i1) (b := i1) (t := t) (v := v) hL hin (Nat.le_refl _) hw9) (lw_V q1083 q1085 qs38 q113 q1086) hdV_X2_word ⟨rfl, rfl⟩ ⟨Nat.le_of_ble_eq_true rfl, Nat.le_of_ble_eq_true rfl⟩ (fx_recv (g := 5) (i := 2) (ci := 3) (q := (RX2, TX2, 8)) hX hC (cin rfl) rfl rfl) hl.1 rfl (Nat.le_of_ble_eq_true rfl) ⟨Nat.zero_le _, Nat.zero_le _⟩ dX2_next_63 (fun _ H locs hC => ?_)
              refine W.eq (g2 := F0 m 66 ls []) rfl ?_
              refine lv_goto (tgt := 113) hx hb dX2_next_66 (by decide) ?_
              have htk : p_tok tp L i1 t v = ((p_let tp L (121 - i1) i1, 2, nI (p_fk tp L i1 (p_let tp L (121 - i1) i1 - i1) 18 0), true) : Nat × Int32 × Int32 × Bool) := by rw [p_tok, if_neg c_17, if_pos c_19, if_pos hw9]
              exact fr_v hx hb hr hlocks hX hC () rfl (congrArg (fun z => cct G (pg d kp as un to z fd tp sh) sp) (by rw [hq, htk])) dX2_next_113
            · rw [hq, p_tok, if_neg c_17, if_pos c_19, if_neg hw9] at hv
              exact absurd (show false = true from hv) (by decide)
        · refine lv_aload_n hx hb dX2_next_47 rfl (lv_at hl 1 rfl) ?_
          refine lv_iconst (v := 0) hx hb dX2_next_48 rfl ?_
          refine fg_put (C := RX2) (T := TX2) (N := 8) (ci := 3) (g := 5) (i := 2) hx hb hown hts hX hC in_X2 tyX2 tyX2_ok nmX2 rfl (cin rfl) rfl 6 (by decide) q295 (fun _ h => h) rfl rfl rfl (Nat.le_of_ble_eq_true rfl) (cct G (pg d kp as un to (rd sc L i1 i1 0 v) fd tp sh) sp) cs_rd dX2_next_49 (fun H locs hC => ?_)
          refine lv_goto (tgt := 113) hx hb dX2_next_52 (by decide) ?_
          have htk : p_tok tp L i1 t v = ((i1, 0, v, true) : Nat × Int32 × Int32 × Bool) := by rw [p_tok, if_pos c_17]
          exact fr_v hx hb hr hlocks hX hC () rfl (congrArg (fun z => cct G (pg d kp as un to z fd tp sh) sp) (by rw [hq, htk])) dX2_next_113
      · refine lv_aload_n hx hb dX2_next_13 rfl (lv_at hl 0 rfl) ?_
        refine lv_dup hx hb dX2_next_14 rfl ?_
        refine fg_get (C := RX2) (T := TX2) (N := 8) (ci := 3) (g := 5) (i := 2) (v := .int (nI i1)) hx hb hown hts hX hC in_X2 rfl (cin rfl) rfl 4 (by decide) q292 (fun _ h => h) rfl dX2_next_15 ?_
        refine lv_iconst (v := 1) hx hb dX2_next_18 rfl ?_
        refine lv_iadd hx hb dX2_next_19 ?_
        rw [nI_1]
        refine fg_put (C := RX2) (T := TX2) (N := 8) (ci := 3) (g := 5) (i := 2) hx hb hown hts hX hC in_X2 tyX2 tyX2_ok nmX2 rfl (cin rfl) rfl 4 (by decide) q292 (fun _ h => h) rfl rfl rfl (Nat.le_of_ble_eq_true rfl) (cct G (pg d kp as un to (rd sc L (i1 + 1) b t v) fd tp sh) sp) cs_rd dX2_next_20 (fun H locs hC => ?_)
        refine lv_goto (tgt := 0) hx hb dX2_next_23 (by decide) ?_
        have hcn := blk_t (f := k1) c_15
        exact ih1 (i1 + 1) (by omega) (hJ1.trans hcn) _ _ hC ls (lv_sub hl [0] rfl)
  exact L_1 (121 - a) a (by omega) rfl _ _ hC ls (lv_sub hl [0] rfl)
set_option maxRecDepth 100000 in
theorem m_X2_next_f {l : Launch} {G : Gc} {d kp as un to sc fd tp sh : Row} {sp : Nat → Option Nat} {L a b : Nat} {t v : Int32} (hL : L ≤ 120) (ha : a ≤ 120) (hv : (p_tok tp L (p_blk tp L (121 - a) a) t v).2.2.2 = false) : CmX l yX2_next (ws_ yX2_next cX2_next 2 none) ({ frames := 6, cells := 0, slots := 0, locals := 130 }) (cF G) [.ref (G.ad 5 2)] (cct G (pg d kp as un to (rd sc L a b t v) fd tp sh) sp) (fun _ : Unit => .threw (G.ad 5 3)) (fun _ => cct G (pg d kp as un to (rd sc L ((p_tok tp L (p_blk tp L (121 - a) a) t v).1) (p_blk tp L (121 - a) a) ((p_tok tp L (p_blk tp L (121 - a) a) t v).2.1) ((p_tok tp L (p_blk tp L (121 - a) a) t v).2.2.1)) fd tp sh) sp) := by
  refine CmX.start (by decide) (Nat.le_of_ble_eq_true rfl) ?_
  intro p e s m below meth c hf hE hX hC ls hl
  obtain ⟨hx, hb, hr, hml, hown, hts, hlocks⟩ := hf
  have hl : lv_has ls 2 [(0, .ref (G.ad 5 2))] := hl
  have hown : s.vm.findClass "OwlEars$Reader" = some m.cls := hown
  have L_1 : ∀ (k1 i1 : Nat), i1 + k1 = 121 → p_blk tp L (121 - a) a = p_blk tp L k1 i1 → ∀ (H : Heap) (locs : List Loc), fC (cF G) (cct G (pg d kp as un to (rd sc L i1 b t v) fd tp sh) sp) s.heap H locs → ∀ ls : Array Slot, lv_has ls 2 [(0, .ref (G.ad 5 2))] → WGX p l e ({ frames := 6, cells := 0, slots := 0, locals := 130 }) s m (([.ref (G.ad 5 2)] : List Value).toArray) below meth c H locs (cF G) (fun _ : Unit => .threw (G.ad 5 3)) (fun _ => cct G (pg d kp as un to (rd sc L ((p_tok tp L (p_blk tp L (121 - a) a) t v).1) (p_blk tp L (121 - a) a) ((p_tok tp L (p_blk tp L (121 - a) a) t v).2.1) ((p_tok tp L (p_blk tp L (121 - a) a) t v).2.2.1)) fd tp sh) sp) (F0 m 0 ls []) := by
    intro k1
    induction k1 with
    | zero =>
      intro i1 hi1 hJ1 H locs hC ls hl
      obtain rfl : i1 = 121 := by omega
      refine lv_aload_n hx hb dX2_next_0 rfl (lv_at hl 0 rfl) ?_
      refine lv_aload_n hx hb dX2_next_1 rfl (lv_at hl 0 rfl) ?_
      refine fg_get (C := RX2) (T := TX2) (N := 8) (ci := 3) (g := 5) (i := 2) (v := .int (nI 121)) hx hb hown hts hX hC in_X2 rfl (cin rfl) rfl 4 (by decide) q292 (fun _ h => h) rfl dX2_next_2 ?_
      refine fc_V (As := [.int (nI 121)]) (rest := []) hx hb hml hown hts hX hC (m_X2_byteAt (sc := sc) (L := L) (a := 121) (b := b) (t := t) (v := v) hL 121 (by omega)) (lw_V q1075 q1077 qs37 q113 q1078) hdV_X2_byteAt ⟨rfl, rfl⟩ ⟨Nat.le_of_ble_eq_true rfl, Nat.le_of_ble_eq_true rfl⟩ (fx_recv (g := 5) (i := 2) (ci := 3) (q := (RX2, TX2, 8)) hX hC (cin rfl) rfl rfl) hl.1 rfl (Nat.le_of_ble_eq_true rfl) ⟨Nat.zero_le _, Nat.zero_le _⟩ dX2_next_5 (fun _ H locs hC => ?_)
      refine W.eq (g2 := F0 m 8 ls [.int (p_byte tp L 121)]) rfl ?_
      refine lv_bipush (v := 32) hx hb dX2_next_8 rfl ?_
      refine lv_icmp_ne (tgt := 26) hx hb dX2_next_10 (by decide) (fun _ => ?_) (fun z_3 => absurd z_3 (by rw [byte_out (by omega)]; decide))
      have hq : p_blk tp L (121 - a) a = 121 := hJ1
      refine lv_aload_n hx hb dX2_next_26 rfl (lv_at hl 0 rfl) ?_
      refine lv_aload_n hx hb dX2_next_27 rfl (lv_at hl 0 rfl) ?_
      refine fg_get (C := RX2) (T := TX2) (N := 8) (ci := 3) (g := 5) (i := 2) (v := .int (nI 121)) hx hb hown hts hX hC in_X2 rfl (cin rfl) rfl 4 (by decide) q292 (fun _ h => h) rfl dX2_next_28 ?_
      refine fg_put (C := RX2) (T := TX2) (N := 8) (ci := 3) (g := 5) (i := 2) hx hb hown hts hX hC in_X2 tyX2 tyX2_ok nmX2 rfl (cin rfl) rfl 5 (by decide) q293 (fun _ h => h) rfl rfl rfl (Nat.le_of_ble_eq_true rfl) (cct G (pg d kp as un to (rd sc L 121 121 t v) fd tp sh) sp) cs_rd dX2_next_31 (fun H locs hC => ?_)
      refine lv_aload_n hx hb dX2_next_34 rfl (lv_at hl 0 rfl) ?_
      refine lv_aload_n hx hb dX2_next_35 rfl (lv_at hl 0 rfl) ?_
      refine fg_get (C := RX2) (T := TX2) (N := 8) (ci := 3) (g := 5) (i := 2) (v := .int (nI 121)) hx hb hown hts hX hC in_X2 rfl (cin rfl) rfl 4 (by decide) q292 (fun _ h => h) rfl dX2_next_36 ?_
      refine fc_V (As := [.int (nI 121)]) (rest := []) hx hb hml hown hts hX hC (m_X2_byteAt (sc := sc) (L := L) (a := 121) (b := 121) (t := t) (v := v) hL 121 (by omega)) (lw_V q1075 q1077 qs37 q113 q1078) hdV_X2_byteAt ⟨rfl, rfl⟩ ⟨Nat.le_of_ble_eq_true rfl, Nat.le_of_ble_eq_true rfl⟩ (fx_recv (g := 5) (i := 2) (ci := 3) (q := (RX2, TX2, 8)) hX hC (cin rfl) rfl rfl) hl.1 rfl (Nat.le_of_ble_eq_true rfl) ⟨Nat.zero_le _, Nat.zero_le _⟩ dX2_next_39 (fun _ H locs hC => ?_)
      refine W.eq (g2 := F0 m 42 ls [.int (p_byte tp L 121)]) rfl ?_
      refine lv_istore_n (lv' := [(1, .int (p_byte tp L 121)), (0, .ref (G.ad 5 2))]) hx hb dX2_next_42 rfl hl (by decide) rfl (fun ls hl => ?_)
      refine lv_iload_n hx hb dX2_next_43 rfl (lv_at hl 0 rfl) ?_
      refine fi_ge (tgt := 55) hx hb dX2_next_44 (by decide) (fun c_5 => ?_) (fun c_5 => ?_)
      · have hin : 121 ≤ 120 := by have h8 := byte_in c_5; omega
        refine lv_iload_n hx hb dX2_next_55 rfl (lv_at hl 0 rfl) ?_
        refine fc_S (As := [.int (p_byte tp L 121)]) (rest := []) hx hb hml hown hts hX hC (m_X2_isLetter (p_byte tp L 121)) (lw_S q1079 q1080 q113 q1081) hdS_X2_isLetter ⟨rfl, rfl⟩ ⟨Nat.le_of_ble_eq_true rfl, Nat.le_of_ble_eq_true rfl⟩ hl.1 rfl (Nat.le_of_ble_eq_true rfl) ⟨Nat.zero_le _, Nat.zero_le _⟩ dX2_next_56 (fun _ H locs hC => ?_)
        refine W.eq (g2 := F0 m 59 ls [.int (b2i (isLt (p_byte tp L 121)))]) rfl ?_
        refine fb_eq (tgt := 69) hx hb dX2_next_59 (by decide) (fun c_7 => ?_) (fun c_7 => ?_)
        · refine lv_iload_n hx hb dX2_next_69 rfl (lv_at hl 0 rfl) ?_
          refine fc_S (As := [.int (p_byte tp L 121)]) (rest := []) hx hb hml hown hts hX hC (m_X2_isDigit (p_byte tp L 121)) (lw_S q1136 q1137 q113 q1138) hdS_X2_isDigit ⟨rfl, rfl⟩ ⟨Nat.le_of_ble_eq_true rfl, Nat.le_of_ble_eq_true rfl⟩ hl.1 rfl (Nat.le_of_ble_eq_true rfl) ⟨Nat.zero_le _, Nat.zero_le _⟩ dX2_next_70 (fun _ H locs hC => ?_)
          refine W.eq (g2 := F0 m 73 ls [.int (b2i (isDg (p_byte tp L 121)))]) rfl ?_
          refine fb_eq (tgt := 83) hx hb dX2_next_73 (by decide) (fun c_9 => ?_) (fun c_9 => ?_)
          · refine lv_aload_n hx hb dX2_next_83 rfl (lv_at hl 1 rfl) ?_
            refine lv_iload_n hx hb dX2_next_84 rfl (lv_at hl 0 rfl) ?_
            refine lv_bipush (v := 59) hx hb dX2_next_85 rfl ?_
            refine lv_icmp_ne (tgt := 94) hx hb dX2_next_87 (by decide) (fun c_10 => ?_) (fun c_10 => ?_)
            · refine lv_iconst (v := 0) hx hb dX2_next_94 rfl ?_
              refine fc_VT (As := [.int 0]) (rest := []) hx hb hml hown hts hX hC (m_X2_need_0) (lw_V q1132 q1134 qs40 q113 q1135) hdV_X2_need ⟨rfl, rfl⟩ ⟨Nat.le_of_ble_eq_true rfl, Nat.le_of_ble_eq_true rfl⟩ (fx_recv (g := 5) (i := 2) (ci := 3) (q := (RX2, TX2, 8)) hX hC (cin rfl) rfl rfl) hl.1 rfl (Nat.le_of_ble_eq_true rfl) ⟨Nat.zero_le _, Nat.zero_le _⟩ dX2_next_95 (fun _ H locs hC => ?_)
              have htk : p_tok tp L 121 t v = ((121, t, v, false) : Nat × Int32 × Int32 × Bool) := by rw [p_tok, if_neg c_5, if_neg c_7, if_neg c_9, if_neg c_10]
              exact fx_out hlocks hX hC hE rfl () rfl (by rw [hq, htk])
            · refine lv_iconst (v := 1) hx hb dX2_next_90 rfl ?_
              refine lv_goto (tgt := 95) hx hb dX2_next_91 (by decide) ?_
              rw [hq, p_tok, if_neg c_5, if_neg c_7, if_neg c_9, if_pos c_10] at hv
              exact absurd (show true = false from hv) (by decide)
          · by_cases hd9 : 999 < (p_dig tp L (121 - 121) 121 0).2
            · refine lv_aload_n hx hb dX2_next_76 rfl (lv_at hl 1 rfl) ?_
              refine fc_VT (As := []) (rest := []) hx hb hml hown hts hX hC (m_X2_digits_f (sc := sc) (L := L) (a := 121) (b := 121) (t := t) (v := v) hL hin hd9) (lw_V q1139 q1141 qs41 q113 q1142) hdV_X2_digits ⟨rfl, rfl⟩ ⟨Nat.le_of_ble_eq_true rfl, Nat.le_of_ble_eq_true rfl⟩ (fx_recv (g := 5) (i := 2) (ci := 3) (q := (RX2, TX2, 8)) hX hC (cin rfl) rfl rfl) hl.1 rfl (Nat.le_of_ble_eq_true rfl) ⟨Nat.zero_le _, Nat.zero_le _⟩ dX2_next_77 (fun _ H locs hC => ?_)
              have htk : p_tok tp L 121 t v = (((p_dig tp L (121 - 121) 121 0).1, 1, (p_dig tp L (121 - 121) 121 0).2, false) : Nat × Int32 × Int32 × Bool) := by rw [p_tok, if_neg c_5, if_neg c_7, if_pos c_9, if_pos hd9]
              exact fx_out hlocks hX hC hE rfl () rfl (by rw [hq, htk])
            · rw [hq, p_tok, if_neg c_5, if_neg c_7, if_pos c_9, if_neg hd9] at hv
              exact absurd (show true = false from hv) (by decide)
        · by_cases hw9 : p_fk tp L 121 (p_let tp L (121 - 121) 121 - 121) 18 0 < 18
          · rw [hq, p_tok, if_neg c_5, if_pos c_7, if_pos hw9] at hv
            exact absurd (show true = false from hv) (by decide)
          · refine lv_aload_n hx hb dX2_next_62 rfl (lv_at hl 1 rfl) ?_
            refine fc_VT (As := []) (rest := []) hx hb hml hown hts hX hC (m_X2_word_f (sc := sc) (L := L) (a := 121) (b := 121) (t := t) (v := v) hL hin (Nat.le_refl _) hw9) (lw_V q1083 q1085 qs38 q113 q1086) hdV_X2_word ⟨rfl, rfl⟩ ⟨Nat.le_of_ble_eq_true rfl, Nat.le_of_ble_eq_true rfl⟩ (fx_recv (g := 5) (i := 2) (ci := 3) (q := (RX2, TX2, 8)) hX hC (cin rfl) rfl rfl) hl.1 rfl (Nat.le_of_ble_eq_true rfl) ⟨Nat.zero_le _, Nat.zero_le _⟩ dX2_next_63 (fun _ H locs hC => ?_)
            have htk : p_tok tp L 121 t v = ((p_let tp L (121 - 121) 121, t, v, false) : Nat × Int32 × Int32 × Bool) := by rw [p_tok, if_neg c_5, if_pos c_7, if_neg hw9]
            exact fx_out hlocks hX hC hE rfl () rfl (by rw [hq, htk])
      · rw [hq, p_tok, if_pos c_5] at hv
        exact absurd (show true = false from hv) (by decide)
    | succ k1 ih1 =>
      intro i1 hi1 hJ1 H locs hC ls hl
      refine lv_aload_n hx hb dX2_next_0 rfl (lv_at hl 0 rfl) ?_
      refine lv_aload_n hx hb dX2_next_1 rfl (lv_at hl 0 rfl) ?_
      refine fg_get (C := RX2) (T := TX2) (N := 8) (ci := 3) (g := 5) (i := 2) (v := .int (nI i1)) hx hb hown hts hX hC in_X2 rfl (cin rfl) rfl 4 (by decide) q292 (fun _ h => h) rfl dX2_next_2 ?_
      refine fc_V (As := [.int (nI i1)]) (rest := []) hx hb hml hown hts hX hC (m_X2_byteAt (sc := sc) (L := L) (a := i1) (b := b) (t := t) (v := v) hL i1 (by omega)) (lw_V q1075 q1077 qs37 q113 q1078) hdV_X2_byteAt ⟨rfl, rfl⟩ ⟨Nat.le_of_ble_eq_true rfl, Nat.le_of_ble_eq_true rfl⟩ (fx_recv (g := 5) (i := 2) (ci := 3) (q := (RX2, TX2, 8)) hX hC (cin rfl) rfl rfl) hl.1 rfl (Nat.le_of_ble_eq_true rfl) ⟨Nat.zero_le _, Nat.zero_le _⟩ dX2_next_5 (fun _ H locs hC => ?_)
      refine W.eq (g2 := F0 m 8 ls [.int (p_byte tp L i1)]) rfl ?_
      refine lv_bipush (v := 32) hx hb dX2_next_8 rfl ?_
      refine lv_icmp_ne (tgt := 26) hx hb dX2_next_10 (by decide) (fun c_15 => ?_) (fun c_15 => ?_)
      · have hq : p_blk tp L (121 - a) a = i1 := hJ1.trans (blk_f c_15)
        refine lv_aload_n hx hb dX2_next_26 rfl (lv_at hl 0 rfl) ?_
        refine lv_aload_n hx hb dX2_next_27 rfl (lv_at hl 0 rfl) ?_
        refine fg_get (C := RX2) (T := TX2) (N := 8) (ci := 3) (g := 5) (i := 2) (v := .int (nI i1)) hx hb hown hts hX hC in_X2 rfl (cin rfl) rfl 4 (by decide) q292 (fun _ h => h) rfl dX2_next_28 ?_
        refine fg_put (C := RX2) (T := TX2) (N := 8) (ci := 3) (g := 5) (i := 2) hx hb hown hts hX hC in_X2 tyX2 tyX2_ok nmX2 rfl (cin rfl) rfl 5 (by decide) q293 (fun _ h => h) rfl rfl rfl (Nat.le_of_ble_eq_true rfl) (cct G (pg d kp as un to (rd sc L i1 i1 t v) fd tp sh) sp) cs_rd dX2_next_31 (fun H locs hC => ?_)
        refine lv_aload_n hx hb dX2_next_34 rfl (lv_at hl 0 rfl) ?_
        refine lv_aload_n hx hb dX2_next_35 rfl (lv_at hl 0 rfl) ?_
        refine fg_get (C := RX2) (T := TX2) (N := 8) (ci := 3) (g := 5) (i := 2) (v := .int (nI i1)) hx hb hown hts hX hC in_X2 rfl (cin rfl) rfl 4 (by decide) q292 (fun _ h => h) rfl dX2_next_36 ?_
        refine fc_V (As := [.int (nI i1)]) (rest := []) hx hb hml hown hts hX hC (m_X2_byteAt (sc := sc) (L := L) (a := i1) (b := i1) (t := t) (v := v) hL i1 (by omega)) (lw_V q1075 q1077 qs37 q113 q1078) hdV_X2_byteAt ⟨rfl, rfl⟩ ⟨Nat.le_of_ble_eq_true rfl, Nat.le_of_ble_eq_true rfl⟩ (fx_recv (g := 5) (i := 2) (ci := 3) (q := (RX2, TX2, 8)) hX hC (cin rfl) rfl rfl) hl.1 rfl (Nat.le_of_ble_eq_true rfl) ⟨Nat.zero_le _, Nat.zero_le _⟩ dX2_next_39 (fun _ H locs hC => ?_)
        refine W.eq (g2 := F0 m 42 ls [.int (p_byte tp L i1)]) rfl ?_
        refine lv_istore_n (lv' := [(1, .int (p_byte tp L i1)), (0, .ref (G.ad 5 2))]) hx hb dX2_next_42 rfl hl (by decide) rfl (fun ls hl => ?_)
        refine lv_iload_n hx hb dX2_next_43 rfl (lv_at hl 0 rfl) ?_
        refine fi_ge (tgt := 55) hx hb dX2_next_44 (by decide) (fun c_17 => ?_) (fun c_17 => ?_)
        · have hin : i1 ≤ 120 := by have h8 := byte_in c_17; omega
          refine lv_iload_n hx hb dX2_next_55 rfl (lv_at hl 0 rfl) ?_
          refine fc_S (As := [.int (p_byte tp L i1)]) (rest := []) hx hb hml hown hts hX hC (m_X2_isLetter (p_byte tp L i1)) (lw_S q1079 q1080 q113 q1081) hdS_X2_isLetter ⟨rfl, rfl⟩ ⟨Nat.le_of_ble_eq_true rfl, Nat.le_of_ble_eq_true rfl⟩ hl.1 rfl (Nat.le_of_ble_eq_true rfl) ⟨Nat.zero_le _, Nat.zero_le _⟩ dX2_next_56 (fun _ H locs hC => ?_)
          refine W.eq (g2 := F0 m 59 ls [.int (b2i (isLt (p_byte tp L i1)))]) rfl ?_
          refine fb_eq (tgt := 69) hx hb dX2_next_59 (by decide) (fun c_19 => ?_) (fun c_19 => ?_)
          · refine lv_iload_n hx hb dX2_next_69 rfl (lv_at hl 0 rfl) ?_
            refine fc_S (As := [.int (p_byte tp L i1)]) (rest := []) hx hb hml hown hts hX hC (m_X2_isDigit (p_byte tp L i1)) (lw_S q1136 q1137 q113 q1138) hdS_X2_isDigit ⟨rfl, rfl⟩ ⟨Nat.le_of_ble_eq_true rfl, Nat.le_of_ble_eq_true rfl⟩ hl.1 rfl (Nat.le_of_ble_eq_true rfl) ⟨Nat.zero_le _, Nat.zero_le _⟩ dX2_next_70 (fun _ H locs hC => ?_)
            refine W.eq (g2 := F0 m 73 ls [.int (b2i (isDg (p_byte tp L i1)))]) rfl ?_
            refine fb_eq (tgt := 83) hx hb dX2_next_73 (by decide) (fun c_21 => ?_) (fun c_21 => ?_)
            · refine lv_aload_n hx hb dX2_next_83 rfl (lv_at hl 1 rfl) ?_
              refine lv_iload_n hx hb dX2_next_84 rfl (lv_at hl 0 rfl) ?_
              refine lv_bipush (v := 59) hx hb dX2_next_85 rfl ?_
              refine lv_icmp_ne (tgt := 94) hx hb dX2_next_87 (by decide) (fun c_22 => ?_) (fun c_22 => ?_)
              · refine lv_iconst (v := 0) hx hb dX2_next_94 rfl ?_
                refine fc_VT (As := [.int 0]) (rest := []) hx hb hml hown hts hX hC (m_X2_need_0) (lw_V q1132 q1134 qs40 q113 q1135) hdV_X2_need ⟨rfl, rfl⟩ ⟨Nat.le_of_ble_eq_true rfl, Nat.le_of_ble_eq_true rfl⟩ (fx_recv (g := 5) (i := 2) (ci := 3) (q := (RX2, TX2, 8)) hX hC (cin rfl) rfl rfl) hl.1 rfl (Nat.le_of_ble_eq_true rfl) ⟨Nat.zero_le _, Nat.zero_le _⟩ dX2_next_95 (fun _ H locs hC => ?_)
                have htk : p_tok tp L i1 t v = ((i1, t, v, false) : Nat × Int32 × Int32 × Bool) := by rw [p_tok, if_neg c_17, if_neg c_19, if_neg c_21, if_neg c_22]
                exact fx_out hlocks hX hC hE rfl () rfl (by rw [hq, htk])
              · refine lv_iconst (v := 1) hx hb dX2_next_90 rfl ?_
                refine lv_goto (tgt := 95) hx hb dX2_next_91 (by decide) ?_
                rw [hq, p_tok, if_neg c_17, if_neg c_19, if_neg c_21, if_pos c_22] at hv
                exact absurd (show true = false from hv) (by decide)
            · by_cases hd9 : 999 < (p_dig tp L (121 - i1) i1 0).2
              · refine lv_aload_n hx hb dX2_next_76 rfl (lv_at hl 1 rfl) ?_
                refine fc_VT (As := []) (rest := []) hx hb hml hown hts hX hC (m_X2_digits_f (sc := sc) (L := L) (a := i1) (b := i1) (t := t) (v := v) hL hin hd9) (lw_V q1139 q1141 qs41 q113 q1142) hdV_X2_digits ⟨rfl, rfl⟩ ⟨Nat.le_of_ble_eq_true rfl, Nat.le_of_ble_eq_true rfl⟩ (fx_recv (g := 5) (i := 2) (ci := 3) (q := (RX2, TX2, 8)) hX hC (cin rfl) rfl rfl) hl.1 rfl (Nat.le_of_ble_eq_true rfl) ⟨Nat.zero_le _, Nat.zero_le _⟩ dX2_next_77 (fun _ H locs hC => ?_)
                have htk : p_tok tp L i1 t v = (((p_dig tp L (121 - i1) i1 0).1, 1, (p_dig tp L (121 - i1) i1 0).2, false) : Nat × Int32 × Int32 × Bool) := by rw [p_tok, if_neg c_17, if_neg c_19, if_pos c_21, if_pos hd9]
                exact fx_out hlocks hX hC hE rfl () rfl (by rw [hq, htk])
              · rw [hq, p_tok, if_neg c_17, if_neg c_19, if_pos c_21, if_neg hd9] at hv
                exact absurd (show true = false from hv) (by decide)
          · by_cases hw9 : p_fk tp L i1 (p_let tp L (121 - i1) i1 - i1) 18 0 < 18
            · rw [hq, p_tok, if_neg c_17, if_pos c_19, if_pos hw9] at hv
              exact absurd (show true = false from hv) (by decide)
            · refine lv_aload_n hx hb dX2_next_62 rfl (lv_at hl 1 rfl) ?_
              refine fc_VT (As := []) (rest := []) hx hb hml hown hts hX hC (m_X2_word_f (sc := sc) (L := L) (a := i1) (b := i1) (t := t) (v := v) hL hin (Nat.le_refl _) hw9) (lw_V q1083 q1085 qs38 q113 q1086) hdV_X2_word ⟨rfl, rfl⟩ ⟨Nat.le_of_ble_eq_true rfl, Nat.le_of_ble_eq_true rfl⟩ (fx_recv (g := 5) (i := 2) (ci := 3) (q := (RX2, TX2, 8)) hX hC (cin rfl) rfl rfl) hl.1 rfl (Nat.le_of_ble_eq_true rfl) ⟨Nat.zero_le _, Nat.zero_le _⟩ dX2_next_63 (fun _ H locs hC => ?_)
              have htk : p_tok tp L i1 t v = ((p_let tp L (121 - i1) i1, t, v, false) : Nat × Int32 × Int32 × Bool) := by rw [p_tok, if_neg c_17, if_pos c_19, if_neg hw9]
              exact fx_out hlocks hX hC hE rfl () rfl (by rw [hq, htk])
        · rw [hq, p_tok, if_pos c_17] at hv
          exact absurd (show true = false from hv) (by decide)
      · refine lv_aload_n hx hb dX2_next_13 rfl (lv_at hl 0 rfl) ?_
        refine lv_dup hx hb dX2_next_14 rfl ?_
        refine fg_get (C := RX2) (T := TX2) (N := 8) (ci := 3) (g := 5) (i := 2) (v := .int (nI i1)) hx hb hown hts hX hC in_X2 rfl (cin rfl) rfl 4 (by decide) q292 (fun _ h => h) rfl dX2_next_15 ?_
        refine lv_iconst (v := 1) hx hb dX2_next_18 rfl ?_
        refine lv_iadd hx hb dX2_next_19 ?_
        rw [nI_1]
        refine fg_put (C := RX2) (T := TX2) (N := 8) (ci := 3) (g := 5) (i := 2) hx hb hown hts hX hC in_X2 tyX2 tyX2_ok nmX2 rfl (cin rfl) rfl 4 (by decide) q292 (fun _ h => h) rfl rfl rfl (Nat.le_of_ble_eq_true rfl) (cct G (pg d kp as un to (rd sc L (i1 + 1) b t v) fd tp sh) sp) cs_rd dX2_next_20 (fun H locs hC => ?_)
        refine lv_goto (tgt := 0) hx hb dX2_next_23 (by decide) ?_
        have hcn := blk_t (f := k1) c_15
        exact ih1 (i1 + 1) (by omega) (hJ1.trans hcn) _ _ hC ls (lv_sub hl [0] rfl)
  exact L_1 (121 - a) a (by omega) rfl _ _ hC ls (lv_sub hl [0] rfl)
