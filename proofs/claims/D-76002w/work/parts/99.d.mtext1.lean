theorem hdV_X13_byteAt : yX13_byteAt.cls = RX13 ∧ yX13_byteAt.cls ≠ "java/lang/invoke/MethodHandle" ∧ yX13_byteAt.cls ≠ "java/lang/invoke/VarHandle" ∧ (parseMethodDescriptor yX13_byteAt.desc).map (fun d => d.parameters.length) = some 1 := by decide +kernel
set_option maxRecDepth 100000 in
theorem m_X13_byteAt {l : Launch} {G : Gm} {d kp as bf sc fd tp it ws sz nu mv : Row} {L im : Nat} {S : MSt} {sn : Int32} (hL : L ≤ 120) (k : Nat) (hk : k < 1000) : Cm l yX13_byteAt (ws_ yX13_byteAt cX13_byteAt 2 (some .int)) ({ frames := 0, cells := 0, slots := 0, locals := 0 }) (mF G) [.ref (G.ad 0 0), .int (nI k)] (mct G (mpg d kp as bf (md sc L S im sn) fd tp it ws sz nu mv)) (fun _ : Unit => some (.int (p_byte tp L k))) (fun _ => mct G (mpg d kp as bf (md sc L S im sn) fd tp it ws sz nu mv)) := by
  refine Cm.start (by decide) (Nat.le_of_ble_eq_true rfl) ?_
  intro p e s m below meth c hf hX hC ls hl
  obtain ⟨hx, hb, hr, hml, hown, hts, hlocks⟩ := hf
  have hl : lv_has ls 2 [(0, .ref (G.ad 0 0)), (1, .int (nI k))] := hl
  have hown : s.vm.findClass "OwlEarsModel" = some m.cls := hown
  refine lv_iload_n hx hb dX13_byteAt_0 rfl (lv_at hl 1 rfl) ?_
  refine lv_aload_n hx hb dX13_byteAt_1 rfl (lv_at hl 0 rfl) ?_
  refine fg_get (C := RX13) (T := TX13) (N := 24) (ci := 0) (g := 0) (i := 0) (v := .int (nI L)) hx hb hown hts hX hC in_X13 rfl (min_ (by decide)) rfl 9 (by decide) q1319 (fun _ h => h) rfl dX13_byteAt_2 ?_
  refine fj_ge (tgt := 17) hx hb dX13_byteAt_5 (by decide) (fun c_1 => ?_) (fun c_1 => ?_)
  · refine lv_iconst (v := (-1)) hx hb dX13_byteAt_17 rfl ?_
    exact fr_i hx hb hr hlocks hX hC () (congrArg (fun z => some (Value.int z)) (by rw [p_byte, if_neg (fun z => c_1 ((lt_nI (by omega) (by omega)).mpr z))])) rfl dX13_byteAt_18
  · refine lv_aload_n hx hb dX13_byteAt_8 rfl (lv_at hl 0 rfl) ?_
    refine fg_get (C := RX13) (T := TX13) (N := 24) (ci := 0) (g := 0) (i := 0) (v := .ref (G.ad 0 6)) hx hb hown hts hX hC in_X13 rfl (min_ (by decide)) rfl 8 (by decide) q1318 (fun _ h => h) rfl dX13_byteAt_9 ?_
    refine lv_iload_n hx hb dX13_byteAt_12 rfl (lv_at hl 1 rfl) ?_
    refine fg_iald (g := 0) (i := 6) (t0 := 0) (v := (mt tp) k) hx hb hX hC (min_ (by decide)) rfl rfl (vp_in_nI (show k < 120 by have := (lt_nI (by omega) (by omega)).mp c_1; omega) (by decide)) (congrArg (mt tp) (nI_clamp (by omega))) dX13_byteAt_13 ?_
    refine lv_goto (tgt := 18) hx hb dX13_byteAt_14 (by decide) ?_
    exact fr_i hx hb hr hlocks hX hC () (congrArg (fun z => some (Value.int z)) (by rw [p_byte, if_pos ((lt_nI (by omega) (by omega)).mp c_1)]; rfl)) rfl dX13_byteAt_18
set_option maxRecDepth 100000 in
theorem m_X13_next {l : Launch} {G : Gm} {d kp as bf sc fd tp it ws sz nu mv : Row} {L im : Nat} {S : MSt} {sn : Int32} (hL : L ≤ 120) (hE : S.en ≤ L)  : Cm l yX13_next (ws_ yX13_next cX13_next 2 none) ({ frames := 1, cells := 0, slots := 0, locals := 22 }) (mF G) [.ref (G.ad 0 0)] (mct G (mpg d kp as bf (md sc L S im sn) fd tp it ws sz nu mv)) (fun _ : Unit => none) (fun _ => mct G (mpg d kp as bf (md sc L (n_next tp L S) im sn) fd tp it ws sz nu mv)) := by
  refine Cm.start (by decide) (Nat.le_of_ble_eq_true rfl) ?_
  intro p e s m below meth c hf hX hC ls hl
  obtain ⟨hx, hb, hr, hml, hown, hts, hlocks⟩ := hf
  have hl : lv_has ls 2 [(0, .ref (G.ad 0 0))] := hl
  have hown : s.vm.findClass "OwlEarsModel" = some m.cls := hown
  refine lv_aload_n hx hb dX13_next_0 rfl (lv_at hl 0 rfl) ?_
  refine lv_aload_n hx hb dX13_next_1 rfl (lv_at hl 0 rfl) ?_
  refine fg_get (C := RX13) (T := TX13) (N := 24) (ci := 0) (g := 0) (i := 0) (v := .int (nI S.en)) hx hb hown hts hX hC in_X13 rfl (min_ (by decide)) rfl 11 (by decide) q1321 (fun _ h => h) rfl dX13_next_2 ?_
  refine fg_put (C := RX13) (T := TX13) (N := 24) (ci := 0) (g := 0) (i := 0) hx hb hown hts hX hC in_X13 tyX13 tyX13_ok nmX13 rfl (min_ (by decide)) rfl 10 (by decide) q1320 (fun _ h => h) rfl rfl rfl (Nat.le_of_ble_eq_true rfl) (mct G (mpg d kp as bf (md sc L (⟨S.en, S.en, S.so, S.va, S.wr⟩ : MSt) im sn) fd tp it ws sz nu mv)) ms_md dX13_next_5 (fun H locs hC => ?_)
  have L_1 : ∀ (k1 i1 : Nat), i1 + k1 = 121 → p_blk tp L (121 - S.en) S.en = p_blk tp L k1 i1 → ∀ (H : Heap) (locs : List Loc), fC (mF G) (mct G (mpg d kp as bf (md sc L (⟨i1, S.en, S.so, S.va, S.wr⟩ : MSt) im sn) fd tp it ws sz nu mv)) s.heap H locs → ∀ ls : Array Slot, lv_has ls 2 [(0, .ref (G.ad 0 0))] → WG p l e ({ frames := 1, cells := 0, slots := 0, locals := 22 }) s m (([.ref (G.ad 0 0)] : List Value).toArray) below meth c H locs (mF G) (fun _ : Unit => none) (fun _ => mct G (mpg d kp as bf (md sc L (n_next tp L S) im sn) fd tp it ws sz nu mv)) (F0 m 8 ls []) := by
    intro k1
    induction k1 with
    | zero =>
      intro i1 hi1 hJ1 H locs hC ls hl
      obtain rfl : i1 = 121 := by omega
      refine lv_aload_n hx hb dX13_next_8 rfl (lv_at hl 0 rfl) ?_
      refine lv_aload_n hx hb dX13_next_9 rfl (lv_at hl 0 rfl) ?_
      refine fg_get (C := RX13) (T := TX13) (N := 24) (ci := 0) (g := 0) (i := 0) (v := .int (nI 121)) hx hb hown hts hX hC in_X13 rfl (min_ (by decide)) rfl 10 (by decide) q1320 (fun _ h => h) rfl dX13_next_10 ?_
      refine fc_V (As := [.int (nI 121)]) (rest := []) hx hb hml hown hts hX hC (m_X13_byteAt (sc := sc) (L := L) (S := (⟨121, S.en, S.so, S.va, S.wr⟩ : MSt)) (im := im) (sn := sn) hL 121 (by have := hE; omega)) (lw_V q1744 q1746 qs94 q124 q1747) hdV_X13_byteAt ⟨rfl, rfl⟩ ⟨Nat.le_of_ble_eq_true rfl, Nat.le_of_ble_eq_true rfl⟩ (fx_recv (g := 0) (i := 0) (ci := 0) (q := (RX13, TX13, 24)) hX hC (min_ (by decide)) rfl rfl) hl.1 rfl (Nat.le_of_ble_eq_true rfl) ⟨Nat.zero_le _, Nat.zero_le _⟩ dX13_next_13 (fun _ H locs hC => ?_)
      refine W.eq (g2 := F0 m 16 ls [.int (p_byte tp L 121)]) rfl ?_
      refine lv_bipush (v := 32) hx hb dX13_next_16 rfl ?_
      refine lv_icmp_ne (tgt := 34) hx hb dX13_next_18 (by decide) (fun _ => ?_) (fun z_3 => absurd z_3 (by rw [byte_out (by omega)]; decide))
      have h8 : p_blk tp L (121 - S.en) S.en = 121 := hJ1
      have h8L : 121 ≤ L := Nat.le_trans (Nat.le_of_eq h8.symm) (blk_L _ _ hE)
      exact absurd h8L (by omega)
    | succ k1 ih1 =>
      intro i1 hi1 hJ1 H locs hC ls hl
      refine lv_aload_n hx hb dX13_next_8 rfl (lv_at hl 0 rfl) ?_
      refine lv_aload_n hx hb dX13_next_9 rfl (lv_at hl 0 rfl) ?_
      refine fg_get (C := RX13) (T := TX13) (N := 24) (ci := 0) (g := 0) (i := 0) (v := .int (nI i1)) hx hb hown hts hX hC in_X13 rfl (min_ (by decide)) rfl 10 (by decide) q1320 (fun _ h => h) rfl dX13_next_10 ?_
      refine fc_V (As := [.int (nI i1)]) (rest := []) hx hb hml hown hts hX hC (m_X13_byteAt (sc := sc) (L := L) (S := (⟨i1, S.en, S.so, S.va, S.wr⟩ : MSt)) (im := im) (sn := sn) hL i1 (by have := hE; omega)) (lw_V q1744 q1746 qs94 q124 q1747) hdV_X13_byteAt ⟨rfl, rfl⟩ ⟨Nat.le_of_ble_eq_true rfl, Nat.le_of_ble_eq_true rfl⟩ (fx_recv (g := 0) (i := 0) (ci := 0) (q := (RX13, TX13, 24)) hX hC (min_ (by decide)) rfl rfl) hl.1 rfl (Nat.le_of_ble_eq_true rfl) ⟨Nat.zero_le _, Nat.zero_le _⟩ dX13_next_13 (fun _ H locs hC => ?_)
      refine W.eq (g2 := F0 m 16 ls [.int (p_byte tp L i1)]) rfl ?_
      refine lv_bipush (v := 32) hx hb dX13_next_16 rfl ?_
      refine lv_icmp_ne (tgt := 34) hx hb dX13_next_18 (by decide) (fun c_5 => ?_) (fun c_5 => ?_)
      · have h8 : p_blk tp L (121 - S.en) S.en = i1 := hJ1.trans (blk_f c_5)
        have h8L : i1 ≤ L := Nat.le_trans (Nat.le_of_eq h8.symm) (blk_L _ _ hE)
        refine lv_aload_n hx hb dX13_next_34 rfl (lv_at hl 0 rfl) ?_
        refine lv_aload_n hx hb dX13_next_35 rfl (lv_at hl 0 rfl) ?_
        refine fg_get (C := RX13) (T := TX13) (N := 24) (ci := 0) (g := 0) (i := 0) (v := .int (nI i1)) hx hb hown hts hX hC in_X13 rfl (min_ (by decide)) rfl 10 (by decide) q1320 (fun _ h => h) rfl dX13_next_36 ?_
        refine fc_V (As := [.int (nI i1)]) (rest := []) hx hb hml hown hts hX hC (m_X13_byteAt (sc := sc) (L := L) (S := (⟨i1, S.en, S.so, S.va, S.wr⟩ : MSt)) (im := im) (sn := sn) hL i1 (by have := hE; omega)) (lw_V q1744 q1746 qs94 q124 q1747) hdV_X13_byteAt ⟨rfl, rfl⟩ ⟨Nat.le_of_ble_eq_true rfl, Nat.le_of_ble_eq_true rfl⟩ (fx_recv (g := 0) (i := 0) (ci := 0) (q := (RX13, TX13, 24)) hX hC (min_ (by decide)) rfl rfl) hl.1 rfl (Nat.le_of_ble_eq_true rfl) ⟨Nat.zero_le _, Nat.zero_le _⟩ dX13_next_39 (fun _ H locs hC => ?_)
        refine W.eq (g2 := F0 m 42 ls [.int (p_byte tp L i1)]) rfl ?_
        refine lv_istore_n (lv' := [(1, .int (p_byte tp L i1)), (0, .ref (G.ad 0 0))]) hx hb dX13_next_42 rfl hl (by decide) rfl (fun ls hl => ?_)
        refine lv_aload_n hx hb dX13_next_43 rfl (lv_at hl 1 rfl) ?_
        refine lv_aload_n hx hb dX13_next_44 rfl (lv_at hl 1 rfl) ?_
        refine fg_get (C := RX13) (T := TX13) (N := 24) (ci := 0) (g := 0) (i := 0) (v := .int (nI i1)) hx hb hown hts hX hC in_X13 rfl (min_ (by decide)) rfl 10 (by decide) q1320 (fun _ h => h) rfl dX13_next_45 ?_
        refine fg_put (C := RX13) (T := TX13) (N := 24) (ci := 0) (g := 0) (i := 0) hx hb hown hts hX hC in_X13 tyX13 tyX13_ok nmX13 rfl (min_ (by decide)) rfl 11 (by decide) q1321 (fun _ h => h) rfl rfl rfl (Nat.le_of_ble_eq_true rfl) (mct G (mpg d kp as bf (md sc L (⟨i1, i1, S.so, S.va, S.wr⟩ : MSt) im sn) fd tp it ws sz nu mv)) ms_md dX13_next_48 (fun H locs hC => ?_)
        refine lv_aload_n hx hb dX13_next_51 rfl (lv_at hl 1 rfl) ?_
        refine lv_iconst (v := 0) hx hb dX13_next_52 rfl ?_
        refine fg_put (C := RX13) (T := TX13) (N := 24) (ci := 0) (g := 0) (i := 0) hx hb hown hts hX hC in_X13 tyX13 tyX13_ok nmX13 rfl (min_ (by decide)) rfl 13 (by decide) q1323 (fun _ h => h) rfl rfl rfl (Nat.le_of_ble_eq_true rfl) (mct G (mpg d kp as bf (md sc L (⟨i1, i1, S.so, 0, S.wr⟩ : MSt) im sn) fd tp it ws sz nu mv)) ms_md dX13_next_53 (fun H locs hC => ?_)
        refine lv_iload_n hx hb dX13_next_56 rfl (lv_at hl 0 rfl) ?_
        refine fi_ge (tgt := 68) hx hb dX13_next_57 (by decide) (fun c_7 => ?_) (fun c_7 => ?_)
        · refine lv_iload_n hx hb dX13_next_68 rfl (lv_at hl 0 rfl) ?_
          refine lv_bipush (v := 97) hx hb dX13_next_69 rfl ?_
          refine lv_bipush (v := 122) hx hb dX13_next_71 rfl ?_
          refine fc_S (As := [.int (p_byte tp L i1), .int 97, .int 122]) (rest := []) hx hb hml hown hts hX hC (m_X13_within (p_byte tp L i1) 97 122) (lw_S q1390 q1391 q124 q1392) hdS_X13_within ⟨rfl, rfl⟩ ⟨Nat.le_of_ble_eq_true rfl, Nat.le_of_ble_eq_true rfl⟩ hl.1 rfl (Nat.le_of_ble_eq_true rfl) ⟨Nat.zero_le _, Nat.zero_le _⟩ dX13_next_73 (fun _ H locs hC => ?_)
          refine W.eq (g2 := F0 m 76 ls [.int (b2i (p_in (p_byte tp L i1) 97 122))]) rfl ?_
          refine fb_eq (tgt := 115) hx hb dX13_next_76 (by decide) (fun c_9 => ?_) (fun c_9 => ?_)
          · refine lv_iload_n hx hb dX13_next_115 rfl (lv_at hl 0 rfl) ?_
            refine lv_bipush (v := 48) hx hb dX13_next_116 rfl ?_
            refine lv_bipush (v := 57) hx hb dX13_next_118 rfl ?_
            refine fc_S (As := [.int (p_byte tp L i1), .int 48, .int 57]) (rest := []) hx hb hml hown hts hX hC (m_X13_within (p_byte tp L i1) 48 57) (lw_S q1390 q1391 q124 q1392) hdS_X13_within ⟨rfl, rfl⟩ ⟨Nat.le_of_ble_eq_true rfl, Nat.le_of_ble_eq_true rfl⟩ hl.1 rfl (Nat.le_of_ble_eq_true rfl) ⟨Nat.zero_le _, Nat.zero_le _⟩ dX13_next_120 (fun _ H locs hC => ?_)
            refine W.eq (g2 := F0 m 123 ls [.int (b2i (p_in (p_byte tp L i1) 48 57))]) rfl ?_
            refine fb_eq (tgt := 191) hx hb dX13_next_123 (by decide) (fun c_11 => ?_) (fun c_11 => ?_)
            · refine lv_aload_n hx hb dX13_next_191 rfl (lv_at hl 1 rfl) ?_
              refine lv_iconst (v := 3) hx hb dX13_next_192 rfl ?_
              refine fg_put (C := RX13) (T := TX13) (N := 24) (ci := 0) (g := 0) (i := 0) hx hb hown hts hX hC in_X13 tyX13 tyX13_ok nmX13 rfl (min_ (by decide)) rfl 12 (by decide) q1322 (fun _ h => h) rfl rfl rfl (Nat.le_of_ble_eq_true rfl) (mct G (mpg d kp as bf (md sc L (⟨i1, i1, 3, 0, S.wr⟩ : MSt) im sn) fd tp it ws sz nu mv)) ms_md dX13_next_193 (fun H locs hC => ?_)
              refine lv_aload_n hx hb dX13_next_196 rfl (lv_at hl 1 rfl) ?_
              refine lv_dup hx hb dX13_next_197 rfl ?_
              refine fg_get (C := RX13) (T := TX13) (N := 24) (ci := 0) (g := 0) (i := 0) (v := .int (nI i1)) hx hb hown hts hX hC in_X13 rfl (min_ (by decide)) rfl 11 (by decide) q1321 (fun _ h => h) rfl dX13_next_198 ?_
              refine lv_iconst (v := 1) hx hb dX13_next_201 rfl ?_
              refine lv_iadd hx hb dX13_next_202 ?_
              rw [nI_1]
              refine fg_put (C := RX13) (T := TX13) (N := 24) (ci := 0) (g := 0) (i := 0) hx hb hown hts hX hC in_X13 tyX13 tyX13_ok nmX13 rfl (min_ (by decide)) rfl 11 (by decide) q1321 (fun _ h => h) rfl rfl rfl (Nat.le_of_ble_eq_true rfl) (mct G (mpg d kp as bf (md sc L (⟨i1, i1 + 1, 3, 0, S.wr⟩ : MSt) im sn) fd tp it ws sz nu mv)) ms_md dX13_next_203 (fun H locs hC => ?_)
              exact fr_v hx hb hr hlocks hX hC () rfl (congrArg (fun z => mct G (mpg d kp as bf z fd tp it ws sz nu mv)) (by rw [n_next, h8, n_tok, if_neg c_7, if_neg c_9, if_neg c_11])) dX13_next_206
            · refine lv_aload_n hx hb dX13_next_126 rfl (lv_at hl 1 rfl) ?_
              refine lv_iconst (v := 2) hx hb dX13_next_127 rfl ?_
              refine fg_put (C := RX13) (T := TX13) (N := 24) (ci := 0) (g := 0) (i := 0) hx hb hown hts hX hC in_X13 tyX13 tyX13_ok nmX13 rfl (min_ (by decide)) rfl 12 (by decide) q1322 (fun _ h => h) rfl rfl rfl (Nat.le_of_ble_eq_true rfl) (mct G (mpg d kp as bf (md sc L (⟨i1, i1, 2, 0, S.wr⟩ : MSt) im sn) fd tp it ws sz nu mv)) ms_md dX13_next_128 (fun H locs hC => ?_)
              have L_12 : ∀ (k12 i12 : Nat), i12 + k12 = 121 → ∀ x12 : Int32, p_dgm tp L (121 - i1) i1 0 = p_dgm tp L k12 i12 x12 → ∀ (H : Heap) (locs : List Loc), fC (mF G) (mct G (mpg d kp as bf (md sc L (⟨i1, i12, 2, x12, S.wr⟩ : MSt) im sn) fd tp it ws sz nu mv)) s.heap H locs → ∀ ls : Array Slot, lv_has ls 2 [(1, .int (p_byte tp L i1)), (0, .ref (G.ad 0 0))] → WG p l e ({ frames := 1, cells := 0, slots := 0, locals := 22 }) s m (([.ref (G.ad 0 0)] : List Value).toArray) below meth c H locs (mF G) (fun _ : Unit => none) (fun _ => mct G (mpg d kp as bf (md sc L (n_next tp L S) im sn) fd tp it ws sz nu mv)) (F0 m 131 ls []) := by
                intro k12
                induction k12 with
                | zero =>
                  intro i12 hi12 x12 hJ12 H locs hC ls hl
                  obtain rfl : i12 = 121 := by omega
                  refine lv_aload_n hx hb dX13_next_131 rfl (lv_at hl 1 rfl) ?_
                  refine lv_aload_n hx hb dX13_next_132 rfl (lv_at hl 1 rfl) ?_
                  refine fg_get (C := RX13) (T := TX13) (N := 24) (ci := 0) (g := 0) (i := 0) (v := .int (nI 121)) hx hb hown hts hX hC in_X13 rfl (min_ (by decide)) rfl 11 (by decide) q1321 (fun _ h => h) rfl dX13_next_133 ?_
                  refine fc_V (As := [.int (nI 121)]) (rest := []) hx hb hml hown hts hX hC (m_X13_byteAt (sc := sc) (L := L) (S := (⟨i1, 121, 2, x12, S.wr⟩ : MSt)) (im := im) (sn := sn) hL 121 (by have := hE; omega)) (lw_V q1744 q1746 qs94 q124 q1747) hdV_X13_byteAt ⟨rfl, rfl⟩ ⟨Nat.le_of_ble_eq_true rfl, Nat.le_of_ble_eq_true rfl⟩ (fx_recv (g := 0) (i := 0) (ci := 0) (q := (RX13, TX13, 24)) hX hC (min_ (by decide)) rfl rfl) hl.1 rfl (Nat.le_of_ble_eq_true rfl) ⟨Nat.zero_le _, Nat.zero_le _⟩ dX13_next_136 (fun _ H locs hC => ?_)
                  refine W.eq (g2 := F0 m 139 ls [.int (p_byte tp L 121)]) rfl ?_
                  refine lv_bipush (v := 48) hx hb dX13_next_139 rfl ?_
                  refine lv_bipush (v := 57) hx hb dX13_next_141 rfl ?_
                  refine fc_S (As := [.int (p_byte tp L 121), .int 48, .int 57]) (rest := []) hx hb hml hown hts hX hC (m_X13_within (p_byte tp L 121) 48 57) (lw_S q1390 q1391 q124 q1392) hdS_X13_within ⟨rfl, rfl⟩ ⟨Nat.le_of_ble_eq_true rfl, Nat.le_of_ble_eq_true rfl⟩ hl.1 rfl (Nat.le_of_ble_eq_true rfl) ⟨Nat.zero_le _, Nat.zero_le _⟩ dX13_next_143 (fun _ H locs hC => ?_)
                  refine W.eq (g2 := F0 m 146 ls [.int (b2i (p_in (p_byte tp L 121) 48 57))]) rfl ?_
                  refine fb_eq (tgt := 206) hx hb dX13_next_146 (by decide) (fun _ => ?_) (fun z_15 => absurd z_15 (by rw [byte_out (by omega)]; decide))
                  have h9 : p_dgm tp L (121 - i1) i1 0 = (121, x12) := hJ12
                  exact fr_v hx hb hr hlocks hX hC () rfl (congrArg (fun z => mct G (mpg d kp as bf z fd tp it ws sz nu mv)) (by rw [n_next, h8, n_tok, if_neg c_7, if_neg c_9, if_pos c_11, h9])) dX13_next_206
                | succ k12 ih12 =>
                  intro i12 hi12 x12 hJ12 H locs hC ls hl
                  refine lv_aload_n hx hb dX13_next_131 rfl (lv_at hl 1 rfl) ?_
                  refine lv_aload_n hx hb dX13_next_132 rfl (lv_at hl 1 rfl) ?_
                  refine fg_get (C := RX13) (T := TX13) (N := 24) (ci := 0) (g := 0) (i := 0) (v := .int (nI i12)) hx hb hown hts hX hC in_X13 rfl (min_ (by decide)) rfl 11 (by decide) q1321 (fun _ h => h) rfl dX13_next_133 ?_
                  refine fc_V (As := [.int (nI i12)]) (rest := []) hx hb hml hown hts hX hC (m_X13_byteAt (sc := sc) (L := L) (S := (⟨i1, i12, 2, x12, S.wr⟩ : MSt)) (im := im) (sn := sn) hL i12 (by have := hE; omega)) (lw_V q1744 q1746 qs94 q124 q1747) hdV_X13_byteAt ⟨rfl, rfl⟩ ⟨Nat.le_of_ble_eq_true rfl, Nat.le_of_ble_eq_true rfl⟩ (fx_recv (g := 0) (i := 0) (ci := 0) (q := (RX13, TX13, 24)) hX hC (min_ (by decide)) rfl rfl) hl.1 rfl (Nat.le_of_ble_eq_true rfl) ⟨Nat.zero_le _, Nat.zero_le _⟩ dX13_next_136 (fun _ H locs hC => ?_)
                  refine W.eq (g2 := F0 m 139 ls [.int (p_byte tp L i12)]) rfl ?_
                  refine lv_bipush (v := 48) hx hb dX13_next_139 rfl ?_
                  refine lv_bipush (v := 57) hx hb dX13_next_141 rfl ?_
                  refine fc_S (As := [.int (p_byte tp L i12), .int 48, .int 57]) (rest := []) hx hb hml hown hts hX hC (m_X13_within (p_byte tp L i12) 48 57) (lw_S q1390 q1391 q124 q1392) hdS_X13_within ⟨rfl, rfl⟩ ⟨Nat.le_of_ble_eq_true rfl, Nat.le_of_ble_eq_true rfl⟩ hl.1 rfl (Nat.le_of_ble_eq_true rfl) ⟨Nat.zero_le _, Nat.zero_le _⟩ dX13_next_143 (fun _ H locs hC => ?_)
                  refine W.eq (g2 := F0 m 146 ls [.int (b2i (p_in (p_byte tp L i12) 48 57))]) rfl ?_
                  refine fb_eq (tgt := 206) hx hb dX13_next_146 (by decide) (fun c_18 => ?_) (fun c_18 => ?_)
                  · have h9 : p_dgm tp L (121 - i1) i1 0 = (i12, x12) := hJ12.trans (dgm_f c_18)
                    exact fr_v hx hb hr hlocks hX hC () rfl (congrArg (fun z => mct G (mpg d kp as bf z fd tp it ws sz nu mv)) (by rw [n_next, h8, n_tok, if_neg c_7, if_neg c_9, if_pos c_11, h9])) dX13_next_206
                  · refine lv_aload_n hx hb dX13_next_149 rfl (lv_at hl 1 rfl) ?_
                    refine lv_sipush (v := 1000) hx hb dX13_next_150 rfl ?_
                    refine lv_bipush (v := 10) hx hb dX13_next_153 rfl ?_
                    refine lv_aload_n hx hb dX13_next_155 rfl (lv_at hl 1 rfl) ?_
                    refine fg_get (C := RX13) (T := TX13) (N := 24) (ci := 0) (g := 0) (i := 0) (v := .int x12) hx hb hown hts hX hC in_X13 rfl (min_ (by decide)) rfl 13 (by decide) q1323 (fun _ h => h) rfl dX13_next_156 ?_
                    refine lv_imul hx hb dX13_next_159 ?_
                    refine lv_aload_n hx hb dX13_next_160 rfl (lv_at hl 1 rfl) ?_
                    refine lv_aload_n hx hb dX13_next_161 rfl (lv_at hl 1 rfl) ?_
                    refine fg_get (C := RX13) (T := TX13) (N := 24) (ci := 0) (g := 0) (i := 0) (v := .int (nI i12)) hx hb hown hts hX hC in_X13 rfl (min_ (by decide)) rfl 11 (by decide) q1321 (fun _ h => h) rfl dX13_next_162 ?_
                    refine fc_V (As := [.int (nI i12)]) (rest := [.int (10 * x12), .int 1000, .ref (G.ad 0 0)]) hx hb hml hown hts hX hC (m_X13_byteAt (sc := sc) (L := L) (S := (⟨i1, i12, 2, x12, S.wr⟩ : MSt)) (im := im) (sn := sn) hL i12 (by have := hE; omega)) (lw_V q1744 q1746 qs94 q124 q1747) hdV_X13_byteAt ⟨rfl, rfl⟩ ⟨Nat.le_of_ble_eq_true rfl, Nat.le_of_ble_eq_true rfl⟩ (fx_recv (g := 0) (i := 0) (ci := 0) (q := (RX13, TX13, 24)) hX hC (min_ (by decide)) rfl rfl) hl.1 rfl (Nat.le_of_ble_eq_true rfl) ⟨Nat.zero_le _, Nat.zero_le _⟩ dX13_next_165 (fun _ H locs hC => ?_)
                    refine W.eq (g2 := F0 m 168 ls [.int (p_byte tp L i12), .int (10 * x12), .int 1000, .ref (G.ad 0 0)]) rfl ?_
                    refine lv_iadd hx hb dX13_next_168 ?_
                    refine lv_bipush (v := 48) hx hb dX13_next_169 rfl ?_
                    refine lv_isub hx hb dX13_next_171 ?_
                    refine fw_min hx hb (hml.trans hl.1.symm) hown hts q1526 (Nat.le_of_ble_eq_true rfl) (Nat.le_of_ble_eq_true rfl) (Nat.zero_le _) (Nat.zero_le _) q792 q125 q793 dX13_next_172 ?_
                    refine fg_put (C := RX13) (T := TX13) (N := 24) (ci := 0) (g := 0) (i := 0) hx hb hown hts hX hC in_X13 tyX13 tyX13_ok nmX13 rfl (min_ (by decide)) rfl 13 (by decide) q1323 (fun _ h => h) rfl rfl rfl (Nat.le_of_ble_eq_true rfl) (mct G (mpg d kp as bf (md sc L (⟨i1, i12, 2, mn 1000 (((10 * x12) + (p_byte tp L i12)) - 48), S.wr⟩ : MSt) im sn) fd tp it ws sz nu mv)) ms_md dX13_next_175 (fun H locs hC => ?_)
                    refine lv_aload_n hx hb dX13_next_178 rfl (lv_at hl 1 rfl) ?_
                    refine lv_dup hx hb dX13_next_179 rfl ?_
                    refine fg_get (C := RX13) (T := TX13) (N := 24) (ci := 0) (g := 0) (i := 0) (v := .int (nI i12)) hx hb hown hts hX hC in_X13 rfl (min_ (by decide)) rfl 11 (by decide) q1321 (fun _ h => h) rfl dX13_next_180 ?_
                    refine lv_iconst (v := 1) hx hb dX13_next_183 rfl ?_
                    refine lv_iadd hx hb dX13_next_184 ?_
                    rw [nI_1]
                    refine fg_put (C := RX13) (T := TX13) (N := 24) (ci := 0) (g := 0) (i := 0) hx hb hown hts hX hC in_X13 tyX13 tyX13_ok nmX13 rfl (min_ (by decide)) rfl 11 (by decide) q1321 (fun _ h => h) rfl rfl rfl (Nat.le_of_ble_eq_true rfl) (mct G (mpg d kp as bf (md sc L (⟨i1, i12 + 1, 2, mn 1000 (((10 * x12) + (p_byte tp L i12)) - 48), S.wr⟩ : MSt) im sn) fd tp it ws sz nu mv)) ms_md dX13_next_185 (fun H locs hC => ?_)
                    refine lv_goto (tgt := 131) hx hb dX13_next_188 (by decide) ?_
                    have hcn := dgm_t (f := k12) (v := x12) c_18
                    exact ih12 (i12 + 1) (by omega) _ (hJ12.trans hcn) _ _ hC ls (lv_sub hl [0, 1] rfl)
              exact L_12 (121 - i1) i1 (by omega) _ rfl _ _ hC ls (lv_sub hl [0, 1] rfl)
          · refine lv_aload_n hx hb dX13_next_79 rfl (lv_at hl 1 rfl) ?_
            refine lv_iconst (v := 1) hx hb dX13_next_80 rfl ?_
            refine fg_put (C := RX13) (T := TX13) (N := 24) (ci := 0) (g := 0) (i := 0) hx hb hown hts hX hC in_X13 tyX13 tyX13_ok nmX13 rfl (min_ (by decide)) rfl 12 (by decide) q1322 (fun _ h => h) rfl rfl rfl (Nat.le_of_ble_eq_true rfl) (mct G (mpg d kp as bf (md sc L (⟨i1, i1, 1, 0, S.wr⟩ : MSt) im sn) fd tp it ws sz nu mv)) ms_md dX13_next_81 (fun H locs hC => ?_)
            have L_20 : ∀ (k20 i20 : Nat), i20 + k20 = 121 → p_let tp L (121 - i1) i1 = p_let tp L k20 i20 → ∀ (H : Heap) (locs : List Loc), fC (mF G) (mct G (mpg d kp as bf (md sc L (⟨i1, i20, 1, 0, S.wr⟩ : MSt) im sn) fd tp it ws sz nu mv)) s.heap H locs → ∀ ls : Array Slot, lv_has ls 2 [(1, .int (p_byte tp L i1)), (0, .ref (G.ad 0 0))] → WG p l e ({ frames := 1, cells := 0, slots := 0, locals := 22 }) s m (([.ref (G.ad 0 0)] : List Value).toArray) below meth c H locs (mF G) (fun _ : Unit => none) (fun _ => mct G (mpg d kp as bf (md sc L (n_next tp L S) im sn) fd tp it ws sz nu mv)) (F0 m 84 ls []) := by
              intro k20
              induction k20 with
              | zero =>
                intro i20 hi20 hJ20 H locs hC ls hl
                obtain rfl : i20 = 121 := by omega
                refine lv_aload_n hx hb dX13_next_84 rfl (lv_at hl 1 rfl) ?_
                refine lv_aload_n hx hb dX13_next_85 rfl (lv_at hl 1 rfl) ?_
                refine fg_get (C := RX13) (T := TX13) (N := 24) (ci := 0) (g := 0) (i := 0) (v := .int (nI 121)) hx hb hown hts hX hC in_X13 rfl (min_ (by decide)) rfl 11 (by decide) q1321 (fun _ h => h) rfl dX13_next_86 ?_
                refine fc_V (As := [.int (nI 121)]) (rest := []) hx hb hml hown hts hX hC (m_X13_byteAt (sc := sc) (L := L) (S := (⟨i1, 121, 1, 0, S.wr⟩ : MSt)) (im := im) (sn := sn) hL 121 (by have := hE; omega)) (lw_V q1744 q1746 qs94 q124 q1747) hdV_X13_byteAt ⟨rfl, rfl⟩ ⟨Nat.le_of_ble_eq_true rfl, Nat.le_of_ble_eq_true rfl⟩ (fx_recv (g := 0) (i := 0) (ci := 0) (q := (RX13, TX13, 24)) hX hC (min_ (by decide)) rfl rfl) hl.1 rfl (Nat.le_of_ble_eq_true rfl) ⟨Nat.zero_le _, Nat.zero_le _⟩ dX13_next_89 (fun _ H locs hC => ?_)
                refine W.eq (g2 := F0 m 92 ls [.int (p_byte tp L 121)]) rfl ?_
                refine lv_bipush (v := 97) hx hb dX13_next_92 rfl ?_
                refine lv_bipush (v := 122) hx hb dX13_next_94 rfl ?_
                refine fc_S (As := [.int (p_byte tp L 121), .int 97, .int 122]) (rest := []) hx hb hml hown hts hX hC (m_X13_within (p_byte tp L 121) 97 122) (lw_S q1390 q1391 q124 q1392) hdS_X13_within ⟨rfl, rfl⟩ ⟨Nat.le_of_ble_eq_true rfl, Nat.le_of_ble_eq_true rfl⟩ hl.1 rfl (Nat.le_of_ble_eq_true rfl) ⟨Nat.zero_le _, Nat.zero_le _⟩ dX13_next_96 (fun _ H locs hC => ?_)
                refine W.eq (g2 := F0 m 99 ls [.int (b2i (p_in (p_byte tp L 121) 97 122))]) rfl ?_
                refine fb_eq (tgt := 206) hx hb dX13_next_99 (by decide) (fun _ => ?_) (fun z_23 => absurd z_23 (by rw [byte_out (by omega)]; decide))
                have h9 : p_let tp L (121 - i1) i1 = 121 := hJ20
                exact fr_v hx hb hr hlocks hX hC () rfl (congrArg (fun z => mct G (mpg d kp as bf z fd tp it ws sz nu mv)) (by rw [n_next, h8, n_tok, if_neg c_7, if_pos c_9, h9])) dX13_next_206
              | succ k20 ih20 =>
                intro i20 hi20 hJ20 H locs hC ls hl
                refine lv_aload_n hx hb dX13_next_84 rfl (lv_at hl 1 rfl) ?_
                refine lv_aload_n hx hb dX13_next_85 rfl (lv_at hl 1 rfl) ?_
                refine fg_get (C := RX13) (T := TX13) (N := 24) (ci := 0) (g := 0) (i := 0) (v := .int (nI i20)) hx hb hown hts hX hC in_X13 rfl (min_ (by decide)) rfl 11 (by decide) q1321 (fun _ h => h) rfl dX13_next_86 ?_
                refine fc_V (As := [.int (nI i20)]) (rest := []) hx hb hml hown hts hX hC (m_X13_byteAt (sc := sc) (L := L) (S := (⟨i1, i20, 1, 0, S.wr⟩ : MSt)) (im := im) (sn := sn) hL i20 (by have := hE; omega)) (lw_V q1744 q1746 qs94 q124 q1747) hdV_X13_byteAt ⟨rfl, rfl⟩ ⟨Nat.le_of_ble_eq_true rfl, Nat.le_of_ble_eq_true rfl⟩ (fx_recv (g := 0) (i := 0) (ci := 0) (q := (RX13, TX13, 24)) hX hC (min_ (by decide)) rfl rfl) hl.1 rfl (Nat.le_of_ble_eq_true rfl) ⟨Nat.zero_le _, Nat.zero_le _⟩ dX13_next_89 (fun _ H locs hC => ?_)
                refine W.eq (g2 := F0 m 92 ls [.int (p_byte tp L i20)]) rfl ?_
                refine lv_bipush (v := 97) hx hb dX13_next_92 rfl ?_
                refine lv_bipush (v := 122) hx hb dX13_next_94 rfl ?_
                refine fc_S (As := [.int (p_byte tp L i20), .int 97, .int 122]) (rest := []) hx hb hml hown hts hX hC (m_X13_within (p_byte tp L i20) 97 122) (lw_S q1390 q1391 q124 q1392) hdS_X13_within ⟨rfl, rfl⟩ ⟨Nat.le_of_ble_eq_true rfl, Nat.le_of_ble_eq_true rfl⟩ hl.1 rfl (Nat.le_of_ble_eq_true rfl) ⟨Nat.zero_le _, Nat.zero_le _⟩ dX13_next_96 (fun _ H locs hC => ?_)
                refine W.eq (g2 := F0 m 99 ls [.int (b2i (p_in (p_byte tp L i20) 97 122))]) rfl ?_
                refine fb_eq (tgt := 206) hx hb dX13_next_99 (by decide) (fun c_26 => ?_) (fun c_26 => ?_)
                · have h9 : p_let tp L (121 - i1) i1 = i20 := hJ20.trans (let_f c_26)
                  exact fr_v hx hb hr hlocks hX hC () rfl (congrArg (fun z => mct G (mpg d kp as bf z fd tp it ws sz nu mv)) (by rw [n_next, h8, n_tok, if_neg c_7, if_pos c_9, h9])) dX13_next_206
                · refine lv_aload_n hx hb dX13_next_102 rfl (lv_at hl 1 rfl) ?_
                  refine lv_dup hx hb dX13_next_103 rfl ?_
                  refine fg_get (C := RX13) (T := TX13) (N := 24) (ci := 0) (g := 0) (i := 0) (v := .int (nI i20)) hx hb hown hts hX hC in_X13 rfl (min_ (by decide)) rfl 11 (by decide) q1321 (fun _ h => h) rfl dX13_next_104 ?_
                  refine lv_iconst (v := 1) hx hb dX13_next_107 rfl ?_
                  refine lv_iadd hx hb dX13_next_108 ?_
                  rw [nI_1]
                  refine fg_put (C := RX13) (T := TX13) (N := 24) (ci := 0) (g := 0) (i := 0) hx hb hown hts hX hC in_X13 tyX13 tyX13_ok nmX13 rfl (min_ (by decide)) rfl 11 (by decide) q1321 (fun _ h => h) rfl rfl rfl (Nat.le_of_ble_eq_true rfl) (mct G (mpg d kp as bf (md sc L (⟨i1, i20 + 1, 1, 0, S.wr⟩ : MSt) im sn) fd tp it ws sz nu mv)) ms_md dX13_next_109 (fun H locs hC => ?_)
                  refine lv_goto (tgt := 84) hx hb dX13_next_112 (by decide) ?_
                  have hcn := let_t (f := k20) c_26
                  exact ih20 (i20 + 1) (by omega) (hJ20.trans hcn) _ _ hC ls (lv_sub hl [0, 1] rfl)
            exact L_20 (121 - i1) i1 (by omega) rfl _ _ hC ls (lv_sub hl [0, 1] rfl)
        · refine lv_aload_n hx hb dX13_next_60 rfl (lv_at hl 1 rfl) ?_
          refine lv_iconst (v := 0) hx hb dX13_next_61 rfl ?_
          refine fg_put (C := RX13) (T := TX13) (N := 24) (ci := 0) (g := 0) (i := 0) hx hb hown hts hX hC in_X13 tyX13 tyX13_ok nmX13 rfl (min_ (by decide)) rfl 12 (by decide) q1322 (fun _ h => h) rfl rfl rfl (Nat.le_of_ble_eq_true rfl) (mct G (mpg d kp as bf (md sc L (⟨i1, i1, 0, 0, S.wr⟩ : MSt) im sn) fd tp it ws sz nu mv)) ms_md dX13_next_62 (fun H locs hC => ?_)
          refine lv_goto (tgt := 206) hx hb dX13_next_65 (by decide) ?_
          exact fr_v hx hb hr hlocks hX hC () rfl (congrArg (fun z => mct G (mpg d kp as bf z fd tp it ws sz nu mv)) (by rw [n_next, h8, n_tok, if_pos c_7])) dX13_next_206
      · refine lv_aload_n hx hb dX13_next_21 rfl (lv_at hl 0 rfl) ?_
        refine lv_dup hx hb dX13_next_22 rfl ?_
        refine fg_get (C := RX13) (T := TX13) (N := 24) (ci := 0) (g := 0) (i := 0) (v := .int (nI i1)) hx hb hown hts hX hC in_X13 rfl (min_ (by decide)) rfl 10 (by decide) q1320 (fun _ h => h) rfl dX13_next_23 ?_
        refine lv_iconst (v := 1) hx hb dX13_next_26 rfl ?_
        refine lv_iadd hx hb dX13_next_27 ?_
        rw [nI_1]
        refine fg_put (C := RX13) (T := TX13) (N := 24) (ci := 0) (g := 0) (i := 0) hx hb hown hts hX hC in_X13 tyX13 tyX13_ok nmX13 rfl (min_ (by decide)) rfl 10 (by decide) q1320 (fun _ h => h) rfl rfl rfl (Nat.le_of_ble_eq_true rfl) (mct G (mpg d kp as bf (md sc L (⟨i1 + 1, S.en, S.so, S.va, S.wr⟩ : MSt) im sn) fd tp it ws sz nu mv)) ms_md dX13_next_28 (fun H locs hC => ?_)
        refine lv_goto (tgt := 8) hx hb dX13_next_31 (by decide) ?_
        have hcn := blk_t (f := k1) c_5
        exact ih1 (i1 + 1) (by omega) (hJ1.trans hcn) _ _ hC ls (lv_sub hl [0] rfl)
  exact L_1 (121 - S.en) S.en (by omega) rfl _ _ hC ls (lv_sub hl [0] rfl)
