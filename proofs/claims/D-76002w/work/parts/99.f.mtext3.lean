theorem hdV_X13_isWord : yX13_isWord.cls = RX13 ∧ yX13_isWord.cls ≠ "java/lang/invoke/MethodHandle" ∧ yX13_isWord.cls ≠ "java/lang/invoke/VarHandle" ∧ (parseMethodDescriptor yX13_isWord.desc).map (fun d => d.parameters.length) = some 1 := by decide +kernel
theorem hdV_X13_wordOf : yX13_wordOf.cls = RX13 ∧ yX13_wordOf.cls ≠ "java/lang/invoke/MethodHandle" ∧ yX13_wordOf.cls ≠ "java/lang/invoke/VarHandle" ∧ (parseMethodDescriptor yX13_wordOf.desc).map (fun d => d.parameters.length) = some 1 := by decide +kernel
theorem hdV_X13_number : yX13_number.cls = RX13 ∧ yX13_number.cls ≠ "java/lang/invoke/MethodHandle" ∧ yX13_number.cls ≠ "java/lang/invoke/VarHandle" ∧ (parseMethodDescriptor yX13_number.desc).map (fun d => d.parameters.length) = some 2 := by decide +kernel
theorem hdV_X13_headingTold : yX13_headingTold.cls = RX13 ∧ yX13_headingTold.cls ≠ "java/lang/invoke/MethodHandle" ∧ yX13_headingTold.cls ≠ "java/lang/invoke/VarHandle" ∧ (parseMethodDescriptor yX13_headingTold.desc).map (fun d => d.parameters.length) = some 0 := by decide +kernel
theorem hdV_X13_afterWord : yX13_afterWord.cls = RX13 ∧ yX13_afterWord.cls ≠ "java/lang/invoke/MethodHandle" ∧ yX13_afterWord.cls ≠ "java/lang/invoke/VarHandle" ∧ (parseMethodDescriptor yX13_afterWord.desc).map (fun d => d.parameters.length) = some 3 := by decide +kernel
theorem hdV_X13_addItem : yX13_addItem.cls = RX13 ∧ yX13_addItem.cls ≠ "java/lang/invoke/MethodHandle" ∧ yX13_addItem.cls ≠ "java/lang/invoke/VarHandle" ∧ (parseMethodDescriptor yX13_addItem.desc).map (fun d => d.parameters.length) = some 5 := by decide +kernel
theorem hdV_X13_readLying : yX13_readLying.cls = RX13 ∧ yX13_readLying.cls ≠ "java/lang/invoke/MethodHandle" ∧ yX13_readLying.cls ≠ "java/lang/invoke/VarHandle" ∧ (parseMethodDescriptor yX13_readLying.desc).map (fun d => d.parameters.length) = some 2 := by decide +kernel
theorem hdV_X13_readMouse : yX13_readMouse.cls = RX13 ∧ yX13_readMouse.cls ≠ "java/lang/invoke/MethodHandle" ∧ yX13_readMouse.cls ≠ "java/lang/invoke/VarHandle" ∧ (parseMethodDescriptor yX13_readMouse.desc).map (fun d => d.parameters.length) = some 0 := by decide +kernel
set_option maxRecDepth 100000 in
theorem m_X13_wordOf_7 {l : Launch} {G : Gm} {d kp as bf sc fd tp it ws sz nu mv : Row} {L im : Nat} {S : MSt} {sn : Int32} (hL : L ≤ 120) (hS : SI L S)  : Cm l yX13_wordOf (ws_ yX13_wordOf cX13_wordOf 4 (some .int)) ({ frames := 5, cells := 0, slots := 0, locals := 108 }) (mF G) [.ref (G.ad 0 0), .ref (G.ad 0 7)] (mct G (mpg d kp as bf (md sc L S im sn) fd tp it ws sz nu mv)) (fun _ : Unit => some (.int (n_wof tp 1 7 S))) (fun _ => mct G (mpg d kp as bf (md sc L S im sn) fd tp it ws sz nu mv)) := by
  refine Cm.start (by decide) (Nat.le_of_ble_eq_true rfl) ?_
  intro p e s m below meth c hf hX hC ls hl
  obtain ⟨hx, hb, hr, hml, hown, hts, hlocks⟩ := hf
  have hl : lv_has ls 4 [(0, .ref (G.ad 0 0)), (1, .ref (G.ad 0 7))] := hl
  have hown : s.vm.findClass "OwlEarsModel" = some m.cls := hown
  by_cases c_1 : S.wr = 0
  · refine lv_iconst (v := (-1)) hx hb dX13_wordOf_0 rfl ?_
    refine lv_istore_n (lv' := [(2, .int (-1)), (0, .ref (G.ad 0 0)), (1, .ref (G.ad 0 7))]) hx hb dX13_wordOf_1 rfl hl (by decide) rfl (fun ls hl => ?_)
    refine lv_iconst (v := 0) hx hb dX13_wordOf_2 rfl ?_
    refine lv_istore_n (lv' := [(3, .int 0), (2, .int (-1)), (0, .ref (G.ad 0 0)), (1, .ref (G.ad 0 7))]) hx hb dX13_wordOf_3 rfl hl (by decide) rfl (fun ls hl => ?_)
    have L_2 : ∀ (k2 i2 : Nat), i2 + k2 = 7 → ∀ (H : Heap) (locs : List Loc), fC (mF G) (mct G (mpg d kp as bf (md sc L S im sn) fd tp it ws sz nu mv)) s.heap H locs → ∀ ls : Array Slot, lv_has ls 4 [(3, .int (nI i2)), (2, .int (p_last (fun k => p_wd tp (1 + k) S) i2)), (0, .ref (G.ad 0 0)), (1, .ref (G.ad 0 7))] → WG p l e ({ frames := 5, cells := 0, slots := 0, locals := 108 }) s m (([.ref (G.ad 0 0), .ref (G.ad 0 7)] : List Value).toArray) below meth c H locs (mF G) (fun _ : Unit => some (.int (n_wof tp 1 7 S))) (fun _ => mct G (mpg d kp as bf (md sc L S im sn) fd tp it ws sz nu mv)) (F0 m 4 ls []) := by
      intro k2
      induction k2 with
      | zero =>
        intro i2 hi2 H locs hC ls hl
        obtain rfl : i2 = 7 := by omega
        refine lv_iload_n hx hb dX13_wordOf_4 rfl (lv_at hl 0 rfl) ?_
        refine lv_aload_n hx hb dX13_wordOf_5 rfl (lv_at hl 3 rfl) ?_
        refine fg_alen (g := 0) (i := 7) (t0 := 1) (v := 7) hx hb hX hC (min_ (by decide)) rfl rfl rfl dX13_wordOf_6 ?_
        refine fj_ge (tgt := 39) hx hb dX13_wordOf_7 (by decide) (fun _ => ?_) (fun z_3 => absurd z_3 (nlt_ix (n := 7)))
        refine lv_iload_n hx hb dX13_wordOf_39 rfl (lv_at hl 1 rfl) ?_
        exact fr_i hx hb hr hlocks hX hC () (congrArg (fun z => some (Value.int z)) (by rw [n_wof, if_pos c_1])) rfl dX13_wordOf_40
      | succ k2 ih2 =>
        intro i2 hi2 H locs hC ls hl
        refine lv_iload_n hx hb dX13_wordOf_4 rfl (lv_at hl 0 rfl) ?_
        refine lv_aload_n hx hb dX13_wordOf_5 rfl (lv_at hl 3 rfl) ?_
        refine fg_alen (g := 0) (i := 7) (t0 := 1) (v := 7) hx hb hX hC (min_ (by decide)) rfl rfl rfl dX13_wordOf_6 ?_
        refine fj_ge (tgt := 39) hx hb dX13_wordOf_7 (by decide) (fun z_4 => absurd (lt_ix (n := 7) (show i2 < 7 by omega)) z_4) (fun _ => ?_)
        refine lv_aload_n hx hb dX13_wordOf_10 rfl (lv_at hl 2 rfl) ?_
        refine fg_get (C := RX13) (T := TX13) (N := 24) (ci := 0) (g := 0) (i := 0) (v := .int S.wr) hx hb hown hts hX hC in_X13 rfl (min_ (by decide)) rfl 14 (by decide) q1324 (fun _ h => h) rfl dX13_wordOf_11 ?_
        refine lv_if_ne (tgt := 39) hx hb dX13_wordOf_14 (by decide) (fun z_5 => absurd c_1 z_5) (fun _ => ?_)
        refine lv_aload_n hx hb dX13_wordOf_17 rfl (lv_at hl 2 rfl) ?_
        refine lv_aload_n hx hb dX13_wordOf_18 rfl (lv_at hl 3 rfl) ?_
        refine lv_iload_n hx hb dX13_wordOf_19 rfl (lv_at hl 0 rfl) ?_
        refine fg_ald (g := 0) (i := 7) (t0 := 1) (ty := .object "java/lang/String") (v := .ref (G.adK (1 + i2))) hx hb hX hC (min_ (by decide)) rfl rfl rfl (vp_in_nI (show i2 < 7 by omega) (by decide)) (congrArg (fun z => Value.ref (G.adK (1 + z))) (nI_clamp (by omega))) dX13_wordOf_20 ?_
        refine fc_V (As := [.ref (G.adK (1 + i2))]) (rest := []) hx hb hml hown hts hX hC (m_X13_isWord (sc := sc) (L := L) (S := S) (im := im) (sn := sn) hL hS (1 + i2) (by omega)) (lw_V q1756 q1758 qs97 q124 q1759) hdV_X13_isWord ⟨rfl, rfl⟩ ⟨Nat.le_of_ble_eq_true rfl, Nat.le_of_ble_eq_true rfl⟩ (fx_recv (g := 0) (i := 0) (ci := 0) (q := (RX13, TX13, 24)) hX hC (min_ (by decide)) rfl rfl) hl.1 rfl (Nat.le_of_ble_eq_true rfl) ⟨Nat.zero_le _, Nat.zero_le _⟩ dX13_wordOf_21 (fun _ H locs hC => ?_)
        refine W.eq (g2 := F0 m 24 ls [.int (b2i (p_wd tp (1 + i2) S))]) rfl ?_
        refine fw_join (C := p_wd tp (1 + i2) S) (a := nI i2) (b := p_last (fun k => p_wd tp (1 + k) S) i2) (pcj := 32) (ls := ls) (rest := []) (fun ja jb => ?_) ?_
        · refine fb_eq (tgt := 31) hx hb dX13_wordOf_24 (by decide) (fun c_7 => ?_) (fun c_7 => ?_)
          · refine lv_iload_n hx hb dX13_wordOf_31 rfl (lv_at hl 1 rfl) ?_
            exact jb c_7
          · refine lv_iload_n hx hb dX13_wordOf_27 rfl (lv_at hl 0 rfl) ?_
            refine lv_goto (tgt := 32) hx hb dX13_wordOf_28 (by decide) ?_
            exact ja c_7
        refine lv_istore_n (lv' := [(2, .int (if p_wd tp (1 + i2) S then nI i2 else p_last (fun k => p_wd tp (1 + k) S) i2)), (3, .int (nI i2)), (0, .ref (G.ad 0 0)), (1, .ref (G.ad 0 7))]) hx hb dX13_wordOf_32 rfl hl (by decide) rfl (fun ls hl => ?_)
        refine lv_iinc (v := nI (i2 + 1)) (lv' := [(3, .int (nI (i2 + 1))), (2, .int (if p_wd tp (1 + i2) S then nI i2 else p_last (fun k => p_wd tp (1 + k) S) i2)), (0, .ref (G.ad 0 0)), (1, .ref (G.ad 0 7))]) hx hb dX13_wordOf_33 hl (k := 1) rfl (nI_1 _) (by decide) rfl (fun ls hl => ?_)
        refine lv_goto (tgt := 4) hx hb dX13_wordOf_36 (by decide) ?_
        exact ih2 (i2 + 1) (by omega) _ _ hC ls (lv_sub hl [0, 1, 2, 3] rfl)
    exact L_2 7 0 (by omega) _ _ hC ls (lv_sub hl [0, 1, 2, 3] rfl)
  · refine lv_iconst (v := (-1)) hx hb dX13_wordOf_0 rfl ?_
    refine lv_istore_n (lv' := [(2, .int (-1)), (0, .ref (G.ad 0 0)), (1, .ref (G.ad 0 7))]) hx hb dX13_wordOf_1 rfl hl (by decide) rfl (fun ls hl => ?_)
    refine lv_iconst (v := 0) hx hb dX13_wordOf_2 rfl ?_
    refine lv_istore_n (lv' := [(3, .int 0), (2, .int (-1)), (0, .ref (G.ad 0 0)), (1, .ref (G.ad 0 7))]) hx hb dX13_wordOf_3 rfl hl (by decide) rfl (fun ls hl => ?_)
    refine lv_iload_n hx hb dX13_wordOf_4 rfl (lv_at hl 0 rfl) ?_
    refine lv_aload_n hx hb dX13_wordOf_5 rfl (lv_at hl 3 rfl) ?_
    refine fg_alen (g := 0) (i := 7) (t0 := 1) (v := 7) hx hb hX hC (min_ (by decide)) rfl rfl rfl dX13_wordOf_6 ?_
    refine fj_ge (tgt := 39) hx hb dX13_wordOf_7 (by decide) (fun z_8 => absurd (by decide) z_8) (fun _ => ?_)
    refine lv_aload_n hx hb dX13_wordOf_10 rfl (lv_at hl 2 rfl) ?_
    refine fg_get (C := RX13) (T := TX13) (N := 24) (ci := 0) (g := 0) (i := 0) (v := .int S.wr) hx hb hown hts hX hC in_X13 rfl (min_ (by decide)) rfl 14 (by decide) q1324 (fun _ h => h) rfl dX13_wordOf_11 ?_
    refine lv_if_ne (tgt := 39) hx hb dX13_wordOf_14 (by decide) (fun _ => ?_) (fun z_9 => absurd z_9 c_1)
    refine lv_iload_n hx hb dX13_wordOf_39 rfl (lv_at hl 1 rfl) ?_
    exact fr_i hx hb hr hlocks hX hC () (congrArg (fun z => some (Value.int z)) (by rw [n_wof, if_neg c_1])) rfl dX13_wordOf_40
set_option maxRecDepth 100000 in
theorem m_X13_wordOf_8 {l : Launch} {G : Gm} {d kp as bf sc fd tp it ws sz nu mv : Row} {L im : Nat} {S : MSt} {sn : Int32} (hL : L ≤ 120) (hS : SI L S)  : Cm l yX13_wordOf (ws_ yX13_wordOf cX13_wordOf 4 (some .int)) ({ frames := 5, cells := 0, slots := 0, locals := 108 }) (mF G) [.ref (G.ad 0 0), .ref (G.ad 0 8)] (mct G (mpg d kp as bf (md sc L S im sn) fd tp it ws sz nu mv)) (fun _ : Unit => some (.int (n_wof tp 8 4 S))) (fun _ => mct G (mpg d kp as bf (md sc L S im sn) fd tp it ws sz nu mv)) := by
  refine Cm.start (by decide) (Nat.le_of_ble_eq_true rfl) ?_
  intro p e s m below meth c hf hX hC ls hl
  obtain ⟨hx, hb, hr, hml, hown, hts, hlocks⟩ := hf
  have hl : lv_has ls 4 [(0, .ref (G.ad 0 0)), (1, .ref (G.ad 0 8))] := hl
  have hown : s.vm.findClass "OwlEarsModel" = some m.cls := hown
  by_cases c_1 : S.wr = 0
  · refine lv_iconst (v := (-1)) hx hb dX13_wordOf_0 rfl ?_
    refine lv_istore_n (lv' := [(2, .int (-1)), (0, .ref (G.ad 0 0)), (1, .ref (G.ad 0 8))]) hx hb dX13_wordOf_1 rfl hl (by decide) rfl (fun ls hl => ?_)
    refine lv_iconst (v := 0) hx hb dX13_wordOf_2 rfl ?_
    refine lv_istore_n (lv' := [(3, .int 0), (2, .int (-1)), (0, .ref (G.ad 0 0)), (1, .ref (G.ad 0 8))]) hx hb dX13_wordOf_3 rfl hl (by decide) rfl (fun ls hl => ?_)
    have L_2 : ∀ (k2 i2 : Nat), i2 + k2 = 4 → ∀ (H : Heap) (locs : List Loc), fC (mF G) (mct G (mpg d kp as bf (md sc L S im sn) fd tp it ws sz nu mv)) s.heap H locs → ∀ ls : Array Slot, lv_has ls 4 [(3, .int (nI i2)), (2, .int (p_last (fun k => p_wd tp (8 + k) S) i2)), (0, .ref (G.ad 0 0)), (1, .ref (G.ad 0 8))] → WG p l e ({ frames := 5, cells := 0, slots := 0, locals := 108 }) s m (([.ref (G.ad 0 0), .ref (G.ad 0 8)] : List Value).toArray) below meth c H locs (mF G) (fun _ : Unit => some (.int (n_wof tp 8 4 S))) (fun _ => mct G (mpg d kp as bf (md sc L S im sn) fd tp it ws sz nu mv)) (F0 m 4 ls []) := by
      intro k2
      induction k2 with
      | zero =>
        intro i2 hi2 H locs hC ls hl
        obtain rfl : i2 = 4 := by omega
        refine lv_iload_n hx hb dX13_wordOf_4 rfl (lv_at hl 0 rfl) ?_
        refine lv_aload_n hx hb dX13_wordOf_5 rfl (lv_at hl 3 rfl) ?_
        refine fg_alen (g := 0) (i := 8) (t0 := 1) (v := 4) hx hb hX hC (min_ (by decide)) rfl rfl rfl dX13_wordOf_6 ?_
        refine fj_ge (tgt := 39) hx hb dX13_wordOf_7 (by decide) (fun _ => ?_) (fun z_3 => absurd z_3 (nlt_ix (n := 4)))
        refine lv_iload_n hx hb dX13_wordOf_39 rfl (lv_at hl 1 rfl) ?_
        exact fr_i hx hb hr hlocks hX hC () (congrArg (fun z => some (Value.int z)) (by rw [n_wof, if_pos c_1])) rfl dX13_wordOf_40
      | succ k2 ih2 =>
        intro i2 hi2 H locs hC ls hl
        refine lv_iload_n hx hb dX13_wordOf_4 rfl (lv_at hl 0 rfl) ?_
        refine lv_aload_n hx hb dX13_wordOf_5 rfl (lv_at hl 3 rfl) ?_
        refine fg_alen (g := 0) (i := 8) (t0 := 1) (v := 4) hx hb hX hC (min_ (by decide)) rfl rfl rfl dX13_wordOf_6 ?_
        refine fj_ge (tgt := 39) hx hb dX13_wordOf_7 (by decide) (fun z_4 => absurd (lt_ix (n := 4) (show i2 < 4 by omega)) z_4) (fun _ => ?_)
        refine lv_aload_n hx hb dX13_wordOf_10 rfl (lv_at hl 2 rfl) ?_
        refine fg_get (C := RX13) (T := TX13) (N := 24) (ci := 0) (g := 0) (i := 0) (v := .int S.wr) hx hb hown hts hX hC in_X13 rfl (min_ (by decide)) rfl 14 (by decide) q1324 (fun _ h => h) rfl dX13_wordOf_11 ?_
        refine lv_if_ne (tgt := 39) hx hb dX13_wordOf_14 (by decide) (fun z_5 => absurd c_1 z_5) (fun _ => ?_)
        refine lv_aload_n hx hb dX13_wordOf_17 rfl (lv_at hl 2 rfl) ?_
        refine lv_aload_n hx hb dX13_wordOf_18 rfl (lv_at hl 3 rfl) ?_
        refine lv_iload_n hx hb dX13_wordOf_19 rfl (lv_at hl 0 rfl) ?_
        refine fg_ald (g := 0) (i := 8) (t0 := 1) (ty := .object "java/lang/String") (v := .ref (G.adK (8 + i2))) hx hb hX hC (min_ (by decide)) rfl rfl rfl (vp_in_nI (show i2 < 4 by omega) (by decide)) (congrArg (fun z => Value.ref (G.adK (8 + z))) (nI_clamp (by omega))) dX13_wordOf_20 ?_
        refine fc_V (As := [.ref (G.adK (8 + i2))]) (rest := []) hx hb hml hown hts hX hC (m_X13_isWord (sc := sc) (L := L) (S := S) (im := im) (sn := sn) hL hS (8 + i2) (by omega)) (lw_V q1756 q1758 qs97 q124 q1759) hdV_X13_isWord ⟨rfl, rfl⟩ ⟨Nat.le_of_ble_eq_true rfl, Nat.le_of_ble_eq_true rfl⟩ (fx_recv (g := 0) (i := 0) (ci := 0) (q := (RX13, TX13, 24)) hX hC (min_ (by decide)) rfl rfl) hl.1 rfl (Nat.le_of_ble_eq_true rfl) ⟨Nat.zero_le _, Nat.zero_le _⟩ dX13_wordOf_21 (fun _ H locs hC => ?_)
        refine W.eq (g2 := F0 m 24 ls [.int (b2i (p_wd tp (8 + i2) S))]) rfl ?_
        refine fw_join (C := p_wd tp (8 + i2) S) (a := nI i2) (b := p_last (fun k => p_wd tp (8 + k) S) i2) (pcj := 32) (ls := ls) (rest := []) (fun ja jb => ?_) ?_
        · refine fb_eq (tgt := 31) hx hb dX13_wordOf_24 (by decide) (fun c_7 => ?_) (fun c_7 => ?_)
          · refine lv_iload_n hx hb dX13_wordOf_31 rfl (lv_at hl 1 rfl) ?_
            exact jb c_7
          · refine lv_iload_n hx hb dX13_wordOf_27 rfl (lv_at hl 0 rfl) ?_
            refine lv_goto (tgt := 32) hx hb dX13_wordOf_28 (by decide) ?_
            exact ja c_7
        refine lv_istore_n (lv' := [(2, .int (if p_wd tp (8 + i2) S then nI i2 else p_last (fun k => p_wd tp (8 + k) S) i2)), (3, .int (nI i2)), (0, .ref (G.ad 0 0)), (1, .ref (G.ad 0 8))]) hx hb dX13_wordOf_32 rfl hl (by decide) rfl (fun ls hl => ?_)
        refine lv_iinc (v := nI (i2 + 1)) (lv' := [(3, .int (nI (i2 + 1))), (2, .int (if p_wd tp (8 + i2) S then nI i2 else p_last (fun k => p_wd tp (8 + k) S) i2)), (0, .ref (G.ad 0 0)), (1, .ref (G.ad 0 8))]) hx hb dX13_wordOf_33 hl (k := 1) rfl (nI_1 _) (by decide) rfl (fun ls hl => ?_)
        refine lv_goto (tgt := 4) hx hb dX13_wordOf_36 (by decide) ?_
        exact ih2 (i2 + 1) (by omega) _ _ hC ls (lv_sub hl [0, 1, 2, 3] rfl)
    exact L_2 4 0 (by omega) _ _ hC ls (lv_sub hl [0, 1, 2, 3] rfl)
  · refine lv_iconst (v := (-1)) hx hb dX13_wordOf_0 rfl ?_
    refine lv_istore_n (lv' := [(2, .int (-1)), (0, .ref (G.ad 0 0)), (1, .ref (G.ad 0 8))]) hx hb dX13_wordOf_1 rfl hl (by decide) rfl (fun ls hl => ?_)
    refine lv_iconst (v := 0) hx hb dX13_wordOf_2 rfl ?_
    refine lv_istore_n (lv' := [(3, .int 0), (2, .int (-1)), (0, .ref (G.ad 0 0)), (1, .ref (G.ad 0 8))]) hx hb dX13_wordOf_3 rfl hl (by decide) rfl (fun ls hl => ?_)
    refine lv_iload_n hx hb dX13_wordOf_4 rfl (lv_at hl 0 rfl) ?_
    refine lv_aload_n hx hb dX13_wordOf_5 rfl (lv_at hl 3 rfl) ?_
    refine fg_alen (g := 0) (i := 8) (t0 := 1) (v := 4) hx hb hX hC (min_ (by decide)) rfl rfl rfl dX13_wordOf_6 ?_
    refine fj_ge (tgt := 39) hx hb dX13_wordOf_7 (by decide) (fun z_8 => absurd (by decide) z_8) (fun _ => ?_)
    refine lv_aload_n hx hb dX13_wordOf_10 rfl (lv_at hl 2 rfl) ?_
    refine fg_get (C := RX13) (T := TX13) (N := 24) (ci := 0) (g := 0) (i := 0) (v := .int S.wr) hx hb hown hts hX hC in_X13 rfl (min_ (by decide)) rfl 14 (by decide) q1324 (fun _ h => h) rfl dX13_wordOf_11 ?_
    refine lv_if_ne (tgt := 39) hx hb dX13_wordOf_14 (by decide) (fun _ => ?_) (fun z_9 => absurd z_9 c_1)
    refine lv_iload_n hx hb dX13_wordOf_39 rfl (lv_at hl 1 rfl) ?_
    exact fr_i hx hb hr hlocks hX hC () (congrArg (fun z => some (Value.int z)) (by rw [n_wof, if_neg c_1])) rfl dX13_wordOf_40
set_option maxRecDepth 100000 in
theorem m_X13_headingTold {l : Launch} {G : Gm} {d kp as bf sc fd tp it ws sz nu mv : Row} {L im : Nat} {S : MSt} {sn : Int32} (hL : L ≤ 120) (hS : SI L S)  : Cm l yX13_headingTold (ws_ yX13_headingTold cX13_headingTold 2 (some .int)) ({ frames := 6, cells := 0, slots := 0, locals := 131 }) (mF G) [.ref (G.ad 0 0)] (mct G (mpg d kp as bf (md sc L S im sn) fd tp it ws sz nu mv)) (fun _ : Unit => some (.int (n_wof tp 8 4 S))) (fun _ => mct G (mpg d kp as bf (md sc L (n_head tp L S) im sn) fd tp it ws sz nu mv)) := by
  refine Cm.start (by decide) (Nat.le_of_ble_eq_true rfl) ?_
  intro p e s m below meth c hf hX hC ls hl
  obtain ⟨hx, hb, hr, hml, hown, hts, hlocks⟩ := hf
  have hl : lv_has ls 2 [(0, .ref (G.ad 0 0))] := hl
  have hown : s.vm.findClass "OwlEarsModel" = some m.cls := hown
  refine lv_aload_n hx hb dX13_headingTold_0 rfl (lv_at hl 0 rfl) ?_
  refine lv_aload_n hx hb dX13_headingTold_1 rfl (lv_at hl 0 rfl) ?_
  refine fg_get (C := RX13) (T := TX13) (N := 24) (ci := 0) (g := 0) (i := 0) (v := .ref (G.ad 0 8)) hx hb hown hts hX hC in_X13 rfl (min_ (by decide)) rfl 16 (by decide) q1326 (fun _ h => h) rfl dX13_headingTold_2 ?_
  refine fc_V (As := [.ref (G.ad 0 8)]) (rest := []) hx hb hml hown hts hX hC (m_X13_wordOf_8 (sc := sc) (L := L) (S := S) (im := im) (sn := sn) hL hS) (lw_V q1752 q1754 qs96 q124 q1755) hdV_X13_wordOf ⟨rfl, rfl⟩ ⟨Nat.le_of_ble_eq_true rfl, Nat.le_of_ble_eq_true rfl⟩ (fx_recv (g := 0) (i := 0) (ci := 0) (q := (RX13, TX13, 24)) hX hC (min_ (by decide)) rfl rfl) hl.1 rfl (Nat.le_of_ble_eq_true rfl) ⟨Nat.zero_le _, Nat.zero_le _⟩ dX13_headingTold_5 (fun _ H locs hC => ?_)
  refine W.eq (g2 := F0 m 8 ls [.int (n_wof tp 8 4 S)]) rfl ?_
  refine lv_istore_n (lv' := [(1, .int (n_wof tp 8 4 S)), (0, .ref (G.ad 0 0))]) hx hb dX13_headingTold_8 rfl hl (by decide) rfl (fun ls hl => ?_)
  refine lv_iload_n hx hb dX13_headingTold_9 rfl (lv_at hl 0 rfl) ?_
  refine lv_if_lt (tgt := 18) hx hb dX13_headingTold_10 (by decide) (fun c_2 => ?_) (fun c_2 => ?_)
  · refine lv_iload_n hx hb dX13_headingTold_18 rfl (lv_at hl 0 rfl) ?_
    exact fr_i hx hb hr hlocks hX hC () rfl (congrArg (fun z => mct G (mpg d kp as bf z fd tp it ws sz nu mv)) (by rw [n_head, if_pos c_2])) dX13_headingTold_19
  · refine lv_aload_n hx hb dX13_headingTold_13 rfl (lv_at hl 1 rfl) ?_
    refine lv_iconst (v := 1) hx hb dX13_headingTold_14 rfl ?_
    refine fc_V (As := [.int 1]) (rest := []) hx hb hml hown hts hX hC (m_X13_must (sc := sc) (L := L) (S := S) (im := im) (sn := sn) hL hS True) (lw_V q1769 q1771 qs98 q124 q1772) hdV_X13_must ⟨rfl, rfl⟩ ⟨Nat.le_of_ble_eq_true rfl, Nat.le_of_ble_eq_true rfl⟩ (fx_recv (g := 0) (i := 0) (ci := 0) (q := (RX13, TX13, 24)) hX hC (min_ (by decide)) rfl rfl) hl.1 rfl (Nat.le_of_ble_eq_true rfl) ⟨Nat.zero_le _, Nat.zero_le _⟩ dX13_headingTold_15 (fun _ H locs hC => ?_)
    refine W.eq (g2 := F0 m 18 ls []) rfl ?_
    refine lv_iload_n hx hb dX13_headingTold_18 rfl (lv_at hl 0 rfl) ?_
    exact fr_i hx hb hr hlocks hX hC () rfl (congrArg (fun z => mct G (mpg d kp as bf z fd tp it ws sz nu mv)) (by rw [n_head, if_neg c_2])) dX13_headingTold_19
set_option maxRecDepth 100000 in
theorem m_X13_afterWord {l : Launch} {G : Gm} {d kp as bf sc fd tp it ws sz nu mv : Row} {L im : Nat} {S : MSt} {sn : Int32} (hL : L ≤ 120) (hS : SI L S) (i0 : Nat) (hi : i0 < 19) (lo oth : Int32) : Cm l yX13_afterWord (ws_ yX13_afterWord cX13_afterWord 4 (some .int)) ({ frames := 5, cells := 0, slots := 0, locals := 108 }) (mF G) [.ref (G.ad 0 0), .ref (G.adK i0), .int lo, .int oth] (mct G (mpg d kp as bf (md sc L S im sn) fd tp it ws sz nu mv)) (fun _ : Unit => some (.int ((n_aft i0 lo oth tp L S).2))) (fun _ => mct G (mpg d kp as bf (md sc L ((n_aft i0 lo oth tp L S).1) im sn) fd tp it ws sz nu mv)) := by
  refine Cm.start (by decide) (Nat.le_of_ble_eq_true rfl) ?_
  intro p e s m below meth c hf hX hC ls hl
  obtain ⟨hx, hb, hr, hml, hown, hts, hlocks⟩ := hf
  have hl : lv_has ls 4 [(0, .ref (G.ad 0 0)), (1, .ref (G.adK i0)), (2, .int lo), (3, .int oth)] := hl
  have hown : s.vm.findClass "OwlEarsModel" = some m.cls := hown
  refine lv_aload_n hx hb dX13_afterWord_0 rfl (lv_at hl 0 rfl) ?_
  refine fg_get (C := RX13) (T := TX13) (N := 24) (ci := 0) (g := 0) (i := 0) (v := .int S.wr) hx hb hown hts hX hC in_X13 rfl (min_ (by decide)) rfl 14 (by decide) q1324 (fun _ h => h) rfl dX13_afterWord_1 ?_
  refine lv_if_ne (tgt := 15) hx hb dX13_afterWord_4 (by decide) (fun c_1 => ?_) (fun c_1 => ?_)
  · refine lv_iload_n hx hb dX13_afterWord_15 rfl (lv_at hl 3 rfl) ?_
    exact fr_i hx hb hr hlocks hX hC () (congrArg (fun z => some (Value.int z)) (by rw [n_aft, if_neg (fun z => c_1 z.1)])) (congrArg (fun z => mct G (mpg d kp as bf z fd tp it ws sz nu mv)) (by rw [n_aft, if_neg (fun z => c_1 z.1)])) dX13_afterWord_16
  · refine lv_aload_n hx hb dX13_afterWord_7 rfl (lv_at hl 0 rfl) ?_
    refine lv_aload_n hx hb dX13_afterWord_8 rfl (lv_at hl 1 rfl) ?_
    refine fc_V (As := [.ref (G.adK i0)]) (rest := []) hx hb hml hown hts hX hC (m_X13_isWord (sc := sc) (L := L) (S := S) (im := im) (sn := sn) hL hS i0 hi) (lw_V q1756 q1758 qs97 q124 q1759) hdV_X13_isWord ⟨rfl, rfl⟩ ⟨Nat.le_of_ble_eq_true rfl, Nat.le_of_ble_eq_true rfl⟩ (fx_recv (g := 0) (i := 0) (ci := 0) (q := (RX13, TX13, 24)) hX hC (min_ (by decide)) rfl rfl) hl.1 rfl (Nat.le_of_ble_eq_true rfl) ⟨Nat.zero_le _, Nat.zero_le _⟩ dX13_afterWord_9 (fun _ H locs hC => ?_)
    refine W.eq (g2 := F0 m 12 ls [.int (b2i (p_wd tp i0 S))]) rfl ?_
    refine fb_ne (tgt := 17) hx hb dX13_afterWord_12 (by decide) (fun c_3 => ?_) (fun c_3 => ?_)
    · refine lv_aload_n hx hb dX13_afterWord_17 rfl (lv_at hl 0 rfl) ?_
      refine lv_iconst (v := 1) hx hb dX13_afterWord_18 rfl ?_
      refine fc_V (As := [.int 1]) (rest := []) hx hb hml hown hts hX hC (m_X13_must (sc := sc) (L := L) (S := S) (im := im) (sn := sn) hL hS True) (lw_V q1769 q1771 qs98 q124 q1772) hdV_X13_must ⟨rfl, rfl⟩ ⟨Nat.le_of_ble_eq_true rfl, Nat.le_of_ble_eq_true rfl⟩ (fx_recv (g := 0) (i := 0) (ci := 0) (q := (RX13, TX13, 24)) hX hC (min_ (by decide)) rfl rfl) hl.1 rfl (Nat.le_of_ble_eq_true rfl) ⟨Nat.zero_le _, Nat.zero_le _⟩ dX13_afterWord_19 (fun _ H locs hC => ?_)
      refine W.eq (g2 := F0 m 22 ls []) rfl ?_
      refine lv_aload_n hx hb dX13_afterWord_22 rfl (lv_at hl 0 rfl) ?_
      refine lv_iload_n hx hb dX13_afterWord_23 rfl (lv_at hl 2 rfl) ?_
      refine lv_bipush (v := 9) hx hb dX13_afterWord_24 rfl ?_
      refine fc_V (As := [.int lo, .int 9]) (rest := []) hx hb hml hown hts hX hC (m_X13_number (sc := sc) (L := L) (S := (n_must True tp L S)) (im := im) (sn := sn) hL (nmust_I hL hS) lo 9) (lw_V q1773 q1775 qs99 q124 q1776) hdV_X13_number ⟨rfl, rfl⟩ ⟨Nat.le_of_ble_eq_true rfl, Nat.le_of_ble_eq_true rfl⟩ (fx_recv (g := 0) (i := 0) (ci := 0) (q := (RX13, TX13, 24)) hX hC (min_ (by decide)) rfl rfl) hl.1 rfl (Nat.le_of_ble_eq_true rfl) ⟨Nat.zero_le _, Nat.zero_le _⟩ dX13_afterWord_26 (fun _ H locs hC => ?_)
      refine W.eq (g2 := F0 m 29 ls [.int ((n_must True tp L S).va)]) rfl ?_
      exact fr_i hx hb hr hlocks hX hC () (congrArg (fun z => some (Value.int z)) (by rw [n_aft, if_pos ⟨c_1, c_3⟩])) (congrArg (fun z => mct G (mpg d kp as bf z fd tp it ws sz nu mv)) (by rw [n_aft, if_pos ⟨c_1, c_3⟩])) dX13_afterWord_29
    · refine lv_iload_n hx hb dX13_afterWord_15 rfl (lv_at hl 3 rfl) ?_
      exact fr_i hx hb hr hlocks hX hC () (congrArg (fun z => some (Value.int z)) (by rw [n_aft, if_neg (fun z => c_3 z.2)])) (congrArg (fun z => mct G (mpg d kp as bf z fd tp it ws sz nu mv)) (by rw [n_aft, if_neg (fun z => c_3 z.2)])) dX13_afterWord_16
set_option maxRecDepth 100000 in
theorem m_X13_readMouse {l : Launch} {G : Gm} {d kp as bf sc fd tp it ws sz nu mv : Row} {L im : Nat} {S : MSt} {sn : Int32} (hL : L ≤ 120) (hS : SI L S) (him : im < 120) : Cm l yX13_readMouse (ws_ yX13_readMouse cX13_readMouse 4 none) ({ frames := 7, cells := 0, slots := 0, locals := 152 }) (mF G) [.ref (G.ad 0 0)] (mct G (mpg d kp as bf (md sc L S im sn) fd tp it ws sz nu mv)) (fun _ : Unit => none) (fun _ => mct G (mpg d kp as bf (md sc L ((n_mouse tp L S sn).1) (im + 1) ((n_mouse tp L S sn).2.1)) fd tp (p_itm it im (n_mouse tp L S sn)) ws sz nu mv)) := by
  refine Cm.start (by decide) (Nat.le_of_ble_eq_true rfl) ?_
  intro p e s m below meth c hf hX hC ls hl
  obtain ⟨hx, hb, hr, hml, hown, hts, hlocks⟩ := hf
  have hl : lv_has ls 4 [(0, .ref (G.ad 0 0))] := hl
  have hown : s.vm.findClass "OwlEarsModel" = some m.cls := hown
  refine lv_aload_n hx hb dX13_readMouse_0 rfl (lv_at hl 0 rfl) ?_
  refine lv_iconst (v := 1) hx hb dX13_readMouse_1 rfl ?_
  refine fc_V (As := [.int 1]) (rest := []) hx hb hml hown hts hX hC (m_X13_must (sc := sc) (L := L) (S := S) (im := im) (sn := sn) hL hS True) (lw_V q1769 q1771 qs98 q124 q1772) hdV_X13_must ⟨rfl, rfl⟩ ⟨Nat.le_of_ble_eq_true rfl, Nat.le_of_ble_eq_true rfl⟩ (fx_recv (g := 0) (i := 0) (ci := 0) (q := (RX13, TX13, 24)) hX hC (min_ (by decide)) rfl rfl) hl.1 rfl (Nat.le_of_ble_eq_true rfl) ⟨Nat.zero_le _, Nat.zero_le _⟩ dX13_readMouse_2 (fun _ H locs hC => ?_)
  refine W.eq (g2 := F0 m 5 ls []) rfl ?_
  refine lv_aload_n hx hb dX13_readMouse_5 rfl (lv_at hl 0 rfl) ?_
  refine lv_iconst (v := 0) hx hb dX13_readMouse_6 rfl ?_
  refine lv_bipush (v := 35) hx hb dX13_readMouse_7 rfl ?_
  refine fc_V (As := [.int 0, .int 35]) (rest := []) hx hb hml hown hts hX hC (m_X13_number (sc := sc) (L := L) (S := (n_must True tp L S)) (im := im) (sn := sn) hL (nmust_I hL hS) 0 35) (lw_V q1773 q1775 qs99 q124 q1776) hdV_X13_number ⟨rfl, rfl⟩ ⟨Nat.le_of_ble_eq_true rfl, Nat.le_of_ble_eq_true rfl⟩ (fx_recv (g := 0) (i := 0) (ci := 0) (q := (RX13, TX13, 24)) hX hC (min_ (by decide)) rfl rfl) hl.1 rfl (Nat.le_of_ble_eq_true rfl) ⟨Nat.zero_le _, Nat.zero_le _⟩ dX13_readMouse_9 (fun _ H locs hC => ?_)
  refine W.eq (g2 := F0 m 12 ls [.int ((n_must True tp L S).va)]) rfl ?_
  refine lv_istore_n (lv' := [(1, .int ((n_must True tp L S).va)), (0, .ref (G.ad 0 0))]) hx hb dX13_readMouse_12 rfl hl (by decide) rfl (fun ls hl => ?_)
  refine lv_aload_n hx hb dX13_readMouse_13 rfl (lv_at hl 1 rfl) ?_
  refine fc_V (As := []) (rest := []) hx hb hml hown hts hX hC (m_X13_headingTold (sc := sc) (L := L) (S := (n_num 0 35 tp L (n_must True tp L S))) (im := im) (sn := sn) hL (nmust_I hL (nmust_I hL hS))) (lw_V q1791 q1793 qs103 q124 q1794) hdV_X13_headingTold ⟨rfl, rfl⟩ ⟨Nat.le_of_ble_eq_true rfl, Nat.le_of_ble_eq_true rfl⟩ (fx_recv (g := 0) (i := 0) (ci := 0) (q := (RX13, TX13, 24)) hX hC (min_ (by decide)) rfl rfl) hl.1 rfl (Nat.le_of_ble_eq_true rfl) ⟨Nat.zero_le _, Nat.zero_le _⟩ dX13_readMouse_14 (fun _ H locs hC => ?_)
  refine W.eq (g2 := F0 m 17 ls [.int (n_wof tp 8 4 (n_num 0 35 tp L (n_must True tp L S)))]) rfl ?_
  refine lv_istore_n (lv' := [(2, .int (n_wof tp 8 4 (n_num 0 35 tp L (n_must True tp L S)))), (1, .int ((n_must True tp L S).va)), (0, .ref (G.ad 0 0))]) hx hb dX13_readMouse_17 rfl hl (by decide) rfl (fun ls hl => ?_)
  refine lv_aload_n hx hb dX13_readMouse_18 rfl (lv_at hl 2 rfl) ?_
  refine va_ldcwS hx hb hown (hX.2.2.1.str (i := 14) q1795 (by decide) rfl) dX13_readMouse_19 ?_
  refine lv_iconst (v := 1) hx hb dX13_readMouse_22 rfl ?_
  refine lv_iconst (v := (-1)) hx hb dX13_readMouse_23 rfl ?_
  refine fc_V (As := [.ref (G.adK 14), .int 1, .int (-1)]) (rest := []) hx hb hml hown hts hX hC (m_X13_afterWord (sc := sc) (L := L) (S := (n_head tp L (n_num 0 35 tp L (n_must True tp L S)))) (im := im) (sn := sn) hL (nhead_I hL (nmust_I hL (nmust_I hL hS))) 14 (by decide) 1 (-1)) (lw_V q1778 q1780 qs100 q124 q1781) hdV_X13_afterWord ⟨rfl, rfl⟩ ⟨Nat.le_of_ble_eq_true rfl, Nat.le_of_ble_eq_true rfl⟩ (fx_recv (g := 0) (i := 0) (ci := 0) (q := (RX13, TX13, 24)) hX hC (min_ (by decide)) rfl rfl) hl.1 rfl (Nat.le_of_ble_eq_true rfl) ⟨Nat.zero_le _, Nat.zero_le _⟩ dX13_readMouse_24 (fun _ H locs hC => ?_)
  refine W.eq (g2 := F0 m 27 ls [.int ((n_aft 14 1 (-1) tp L (n_head tp L (n_num 0 35 tp L (n_must True tp L S)))).2)]) rfl ?_
  refine lv_istore_n (lv' := [(3, .int ((n_aft 14 1 (-1) tp L (n_head tp L (n_num 0 35 tp L (n_must True tp L S)))).2)), (2, .int (n_wof tp 8 4 (n_num 0 35 tp L (n_must True tp L S)))), (1, .int ((n_must True tp L S).va)), (0, .ref (G.ad 0 0))]) hx hb dX13_readMouse_27 rfl hl (by decide) rfl (fun ls hl => ?_)
  refine lv_aload_n hx hb dX13_readMouse_28 rfl (lv_at hl 3 rfl) ?_
  refine lv_bipush (v := 10) hx hb dX13_readMouse_29 rfl ?_
  refine lv_iload_n hx hb dX13_readMouse_31 rfl (lv_at hl 2 rfl) ?_
  refine lv_iload_n hx hb dX13_readMouse_32 rfl (lv_at hl 1 rfl) ?_
  refine lv_iload_n hx hb dX13_readMouse_33 rfl (lv_at hl 0 rfl) ?_
  refine lv_aload_n hx hb dX13_readMouse_34 rfl (lv_at hl 3 rfl) ?_
  refine va_ldcwS hx hb hown (hX.2.2.1.str (i := 15) q1796 (by decide) rfl) dX13_readMouse_35 ?_
  refine lv_iconst (v := 0) hx hb dX13_readMouse_38 rfl ?_
  refine lv_iconst (v := (-1)) hx hb dX13_readMouse_39 rfl ?_
  refine fc_V (As := [.ref (G.adK 15), .int 0, .int (-1)]) (rest := [.int ((n_aft 14 1 (-1) tp L (n_head tp L (n_num 0 35 tp L (n_must True tp L S)))).2), .int (n_wof tp 8 4 (n_num 0 35 tp L (n_must True tp L S))), .int ((n_must True tp L S).va), .int 10, .ref (G.ad 0 0)]) hx hb hml hown hts hX hC (m_X13_afterWord (sc := sc) (L := L) (S := ((n_aft 14 1 (-1) tp L (n_head tp L (n_num 0 35 tp L (n_must True tp L S)))).1)) (im := im) (sn := sn) hL (naft_I hL (nhead_I hL (nmust_I hL (nmust_I hL hS)))) 15 (by decide) 0 (-1)) (lw_V q1778 q1780 qs100 q124 q1781) hdV_X13_afterWord ⟨rfl, rfl⟩ ⟨Nat.le_of_ble_eq_true rfl, Nat.le_of_ble_eq_true rfl⟩ (fx_recv (g := 0) (i := 0) (ci := 0) (q := (RX13, TX13, 24)) hX hC (min_ (by decide)) rfl rfl) hl.1 rfl (Nat.le_of_ble_eq_true rfl) ⟨Nat.zero_le _, Nat.zero_le _⟩ dX13_readMouse_40 (fun _ H locs hC => ?_)
  refine W.eq (g2 := F0 m 43 ls [.int ((n_aft 15 0 (-1) tp L ((n_aft 14 1 (-1) tp L (n_head tp L (n_num 0 35 tp L (n_must True tp L S)))).1)).2), .int ((n_aft 14 1 (-1) tp L (n_head tp L (n_num 0 35 tp L (n_must True tp L S)))).2), .int (n_wof tp 8 4 (n_num 0 35 tp L (n_must True tp L S))), .int ((n_must True tp L S).va), .int 10, .ref (G.ad 0 0)]) rfl ?_
  refine fc_V (As := [.int 10, .int ((n_must True tp L S).va), .int (n_wof tp 8 4 (n_num 0 35 tp L (n_must True tp L S))), .int ((n_aft 14 1 (-1) tp L (n_head tp L (n_num 0 35 tp L (n_must True tp L S)))).2), .int ((n_aft 15 0 (-1) tp L ((n_aft 14 1 (-1) tp L (n_head tp L (n_num 0 35 tp L (n_must True tp L S)))).1)).2)]) (rest := []) hx hb hml hown hts hX hC (m_X13_addItem (sc := sc) (L := L) (S := ((n_aft 15 0 (-1) tp L ((n_aft 14 1 (-1) tp L (n_head tp L (n_num 0 35 tp L (n_must True tp L S)))).1)).1)) (im := im) (sn := sn) hL 10 ((n_must True tp L S).va) (n_wof tp 8 4 (n_num 0 35 tp L (n_must True tp L S))) ((n_aft 14 1 (-1) tp L (n_head tp L (n_num 0 35 tp L (n_must True tp L S)))).2) ((n_aft 15 0 (-1) tp L ((n_aft 14 1 (-1) tp L (n_head tp L (n_num 0 35 tp L (n_must True tp L S)))).1)).2) him) (lw_V q1782 q1784 qs101 q124 q1785) hdV_X13_addItem ⟨rfl, rfl⟩ ⟨Nat.le_of_ble_eq_true rfl, Nat.le_of_ble_eq_true rfl⟩ (fx_recv (g := 0) (i := 0) (ci := 0) (q := (RX13, TX13, 24)) hX hC (min_ (by decide)) rfl rfl) hl.1 rfl (Nat.le_of_ble_eq_true rfl) ⟨Nat.zero_le _, Nat.zero_le _⟩ dX13_readMouse_43 (fun _ H locs hC => ?_)
  refine W.eq (g2 := F0 m 46 ls []) rfl ?_
  exact fr_v hx hb hr hlocks hX hC () rfl ((congrArg (fun z => mct G (mpg d kp as bf z fd tp (p_item it im 10 ((n_must True tp L S).va) (n_wof tp 8 4 (n_num 0 35 tp L (n_must True tp L S))) ((n_aft 14 1 (-1) tp L (n_head tp L (n_num 0 35 tp L (n_must True tp L S)))).2) ((n_aft 15 0 (-1) tp L ((n_aft 14 1 (-1) tp L (n_head tp L (n_num 0 35 tp L (n_must True tp L S)))).1)).2)) ws sz nu mv)) (by simp only [n_mouse])).trans (congrArg (fun z => mct G (mpg d kp as bf (md sc L ((n_mouse tp L S sn).1) (im + 1) ((n_mouse tp L S sn).2.1)) fd tp z ws sz nu mv)) (by simp only [n_mouse, p_itm]))) dX13_readMouse_46
set_option maxRecDepth 100000 in
theorem m_X13_readLying {l : Launch} {G : Gm} {d kp as bf sc fd tp it ws sz nu mv : Row} {L im : Nat} {S : MSt} {sn : Int32} (hL : L ≤ 120) (hS : SI L S) (what most : Int32) (him : im < 120) : Cm l yX13_readLying (ws_ yX13_readLying cX13_readLying 4 none) ({ frames := 4, cells := 0, slots := 0, locals := 87 }) (mF G) [.ref (G.ad 0 0), .int what, .int most] (mct G (mpg d kp as bf (md sc L S im sn) fd tp it ws sz nu mv)) (fun _ : Unit => none) (fun _ => mct G (mpg d kp as bf (md sc L ((n_lie what most tp L S sn).1) (im + 1) ((n_lie what most tp L S sn).2.1)) fd tp (p_itm it im (n_lie what most tp L S sn)) ws sz nu mv)) := by
  refine Cm.start (by decide) (Nat.le_of_ble_eq_true rfl) ?_
  intro p e s m below meth c hf hX hC ls hl
  obtain ⟨hx, hb, hr, hml, hown, hts, hlocks⟩ := hf
  have hl : lv_has ls 4 [(0, .ref (G.ad 0 0)), (1, .int what), (2, .int most)] := hl
  have hown : s.vm.findClass "OwlEarsModel" = some m.cls := hown
  refine lv_aload_n hx hb dX13_readLying_0 rfl (lv_at hl 0 rfl) ?_
  refine lv_iconst (v := 1) hx hb dX13_readLying_1 rfl ?_
  refine fc_V (As := [.int 1]) (rest := []) hx hb hml hown hts hX hC (m_X13_must (sc := sc) (L := L) (S := S) (im := im) (sn := sn) hL hS True) (lw_V q1769 q1771 qs98 q124 q1772) hdV_X13_must ⟨rfl, rfl⟩ ⟨Nat.le_of_ble_eq_true rfl, Nat.le_of_ble_eq_true rfl⟩ (fx_recv (g := 0) (i := 0) (ci := 0) (q := (RX13, TX13, 24)) hX hC (min_ (by decide)) rfl rfl) hl.1 rfl (Nat.le_of_ble_eq_true rfl) ⟨Nat.zero_le _, Nat.zero_le _⟩ dX13_readLying_2 (fun _ H locs hC => ?_)
  refine W.eq (g2 := F0 m 5 ls []) rfl ?_
  refine lv_aload_n hx hb dX13_readLying_5 rfl (lv_at hl 0 rfl) ?_
  refine lv_iconst (v := 0) hx hb dX13_readLying_6 rfl ?_
  refine lv_bipush (v := 35) hx hb dX13_readLying_7 rfl ?_
  refine fc_V (As := [.int 0, .int 35]) (rest := []) hx hb hml hown hts hX hC (m_X13_number (sc := sc) (L := L) (S := (n_must True tp L S)) (im := im) (sn := sn) hL (nmust_I hL hS) 0 35) (lw_V q1773 q1775 qs99 q124 q1776) hdV_X13_number ⟨rfl, rfl⟩ ⟨Nat.le_of_ble_eq_true rfl, Nat.le_of_ble_eq_true rfl⟩ (fx_recv (g := 0) (i := 0) (ci := 0) (q := (RX13, TX13, 24)) hX hC (min_ (by decide)) rfl rfl) hl.1 rfl (Nat.le_of_ble_eq_true rfl) ⟨Nat.zero_le _, Nat.zero_le _⟩ dX13_readLying_9 (fun _ H locs hC => ?_)
  refine W.eq (g2 := F0 m 12 ls [.int ((n_must True tp L S).va)]) rfl ?_
  refine lv_istore_n (lv' := [(3, .int ((n_must True tp L S).va)), (0, .ref (G.ad 0 0)), (1, .int what), (2, .int most)]) hx hb dX13_readLying_12 rfl hl (by decide) rfl (fun ls hl => ?_)
  refine lv_aload_n hx hb dX13_readLying_13 rfl (lv_at hl 1 rfl) ?_
  refine lv_iload_n hx hb dX13_readLying_14 rfl (lv_at hl 2 rfl) ?_
  refine lv_iload_n hx hb dX13_readLying_15 rfl (lv_at hl 0 rfl) ?_
  refine lv_aload_n hx hb dX13_readLying_16 rfl (lv_at hl 1 rfl) ?_
  refine lv_iconst (v := 0) hx hb dX13_readLying_17 rfl ?_
  refine lv_iload_n hx hb dX13_readLying_18 rfl (lv_at hl 3 rfl) ?_
  refine fc_V (As := [.int 0, .int most]) (rest := [.int ((n_must True tp L S).va), .int what, .ref (G.ad 0 0)]) hx hb hml hown hts hX hC (m_X13_number (sc := sc) (L := L) (S := (n_num 0 35 tp L (n_must True tp L S))) (im := im) (sn := sn) hL (nmust_I hL (nmust_I hL hS)) 0 most) (lw_V q1773 q1775 qs99 q124 q1776) hdV_X13_number ⟨rfl, rfl⟩ ⟨Nat.le_of_ble_eq_true rfl, Nat.le_of_ble_eq_true rfl⟩ (fx_recv (g := 0) (i := 0) (ci := 0) (q := (RX13, TX13, 24)) hX hC (min_ (by decide)) rfl rfl) hl.1 rfl (Nat.le_of_ble_eq_true rfl) ⟨Nat.zero_le _, Nat.zero_le _⟩ dX13_readLying_19 (fun _ H locs hC => ?_)
  refine W.eq (g2 := F0 m 22 ls [.int ((n_num 0 35 tp L (n_must True tp L S)).va), .int ((n_must True tp L S).va), .int what, .ref (G.ad 0 0)]) rfl ?_
  refine lv_iconst (v := 0) hx hb dX13_readLying_22 rfl ?_
  refine lv_iconst (v := 0) hx hb dX13_readLying_23 rfl ?_
  refine fc_V (As := [.int what, .int ((n_must True tp L S).va), .int ((n_num 0 35 tp L (n_must True tp L S)).va), .int 0, .int 0]) (rest := []) hx hb hml hown hts hX hC (m_X13_addItem (sc := sc) (L := L) (S := (n_num 0 most tp L (n_num 0 35 tp L (n_must True tp L S)))) (im := im) (sn := sn) hL what ((n_must True tp L S).va) ((n_num 0 35 tp L (n_must True tp L S)).va) 0 0 him) (lw_V q1782 q1784 qs101 q124 q1785) hdV_X13_addItem ⟨rfl, rfl⟩ ⟨Nat.le_of_ble_eq_true rfl, Nat.le_of_ble_eq_true rfl⟩ (fx_recv (g := 0) (i := 0) (ci := 0) (q := (RX13, TX13, 24)) hX hC (min_ (by decide)) rfl rfl) hl.1 rfl (Nat.le_of_ble_eq_true rfl) ⟨Nat.zero_le _, Nat.zero_le _⟩ dX13_readLying_24 (fun _ H locs hC => ?_)
  refine W.eq (g2 := F0 m 27 ls []) rfl ?_
  exact fr_v hx hb hr hlocks hX hC () rfl ((congrArg (fun z => mct G (mpg d kp as bf z fd tp (p_item it im what ((n_must True tp L S).va) ((n_num 0 35 tp L (n_must True tp L S)).va) 0 0) ws sz nu mv)) (by simp only [n_lie])).trans (congrArg (fun z => mct G (mpg d kp as bf (md sc L ((n_lie what most tp L S sn).1) (im + 1) ((n_lie what most tp L S sn).2.1)) fd tp z ws sz nu mv)) (by simp only [n_lie, p_itm]))) dX13_readLying_27
set_option maxRecDepth 100000 in
theorem m_X13_readItem {l : Launch} {G : Gm} {d kp as bf sc fd tp it ws sz nu mv : Row} {L im : Nat} {S : MSt} {sn : Int32} (hL : L ≤ 120) (hS : SI L S) (him : im < 120) : Cm l yX13_readItem (ws_ yX13_readItem cX13_readItem 3 none) ({ frames := 8, cells := 0, slots := 0, locals := 175 }) (mF G) [.ref (G.ad 0 0)] (mct G (mpg d kp as bf (md sc L S im sn) fd tp it ws sz nu mv)) (fun _ : Unit => none) (fun _ => mct G (mpg d kp as bf (md sc L ((n_item tp L S sn).1) (im + 1) ((n_item tp L S sn).2.1)) fd tp (p_itm it im (n_item tp L S sn)) ws sz nu mv)) := by
  refine Cm.start (by decide) (Nat.le_of_ble_eq_true rfl) ?_
  intro p e s m below meth c hf hX hC ls hl
  obtain ⟨hx, hb, hr, hml, hown, hts, hlocks⟩ := hf
  have hl : lv_has ls 3 [(0, .ref (G.ad 0 0))] := hl
  have hown : s.vm.findClass "OwlEarsModel" = some m.cls := hown
  refine lv_aload_n hx hb dX13_readItem_0 rfl (lv_at hl 0 rfl) ?_
  refine lv_aload_n hx hb dX13_readItem_1 rfl (lv_at hl 0 rfl) ?_
  refine fg_get (C := RX13) (T := TX13) (N := 24) (ci := 0) (g := 0) (i := 0) (v := .ref (G.ad 0 7)) hx hb hown hts hX hC in_X13 rfl (min_ (by decide)) rfl 15 (by decide) q1325 (fun _ h => h) rfl dX13_readItem_2 ?_
  refine fc_V (As := [.ref (G.ad 0 7)]) (rest := []) hx hb hml hown hts hX hC (m_X13_wordOf_7 (sc := sc) (L := L) (S := S) (im := im) (sn := sn) hL hS) (lw_V q1752 q1754 qs96 q124 q1755) hdV_X13_wordOf ⟨rfl, rfl⟩ ⟨Nat.le_of_ble_eq_true rfl, Nat.le_of_ble_eq_true rfl⟩ (fx_recv (g := 0) (i := 0) (ci := 0) (q := (RX13, TX13, 24)) hX hC (min_ (by decide)) rfl rfl) hl.1 rfl (Nat.le_of_ble_eq_true rfl) ⟨Nat.zero_le _, Nat.zero_le _⟩ dX13_readItem_5 (fun _ H locs hC => ?_)
  refine W.eq (g2 := F0 m 8 ls [.int (n_wof tp 1 7 S)]) rfl ?_
  refine lv_istore_n (lv' := [(1, .int (n_wof tp 1 7 S)), (0, .ref (G.ad 0 0))]) hx hb dX13_readItem_8 rfl hl (by decide) rfl (fun ls hl => ?_)
  refine lv_iload_n hx hb dX13_readItem_9 rfl (lv_at hl 0 rfl) ?_
  refine lv_if_lt (tgt := 69) hx hb dX13_readItem_10 (by decide) (fun c_2 => ?_) (fun c_2 => ?_)
  · refine lv_aload_n hx hb dX13_readItem_69 rfl (lv_at hl 1 rfl) ?_
    refine va_ldcwS hx hb hown (hX.2.2.1.str (i := 13) q1786 (by decide) rfl) dX13_readItem_70 ?_
    refine fc_V (As := [.ref (G.adK 13)]) (rest := []) hx hb hml hown hts hX hC (m_X13_isWord (sc := sc) (L := L) (S := S) (im := im) (sn := sn) hL hS 13 (by decide)) (lw_V q1756 q1758 qs97 q124 q1759) hdV_X13_isWord ⟨rfl, rfl⟩ ⟨Nat.le_of_ble_eq_true rfl, Nat.le_of_ble_eq_true rfl⟩ (fx_recv (g := 0) (i := 0) (ci := 0) (q := (RX13, TX13, 24)) hX hC (min_ (by decide)) rfl rfl) hl.1 rfl (Nat.le_of_ble_eq_true rfl) ⟨Nat.zero_le _, Nat.zero_le _⟩ dX13_readItem_73 (fun _ H locs hC => ?_)
    refine W.eq (g2 := F0 m 76 ls [.int (b2i (p_wd tp 13 S))]) rfl ?_
    refine fb_eq (tgt := 86) hx hb dX13_readItem_76 (by decide) (fun c_4 => ?_) (fun c_4 => ?_)
    · refine lv_aload_n hx hb dX13_readItem_86 rfl (lv_at hl 1 rfl) ?_
      refine va_ldcwS hx hb hown (hX.2.2.1.str (i := 16) q1797 (by decide) rfl) dX13_readItem_87 ?_
      refine fc_V (As := [.ref (G.adK 16)]) (rest := []) hx hb hml hown hts hX hC (m_X13_isWord (sc := sc) (L := L) (S := S) (im := im) (sn := sn) hL hS 16 (by decide)) (lw_V q1756 q1758 qs97 q124 q1759) hdV_X13_isWord ⟨rfl, rfl⟩ ⟨Nat.le_of_ble_eq_true rfl, Nat.le_of_ble_eq_true rfl⟩ (fx_recv (g := 0) (i := 0) (ci := 0) (q := (RX13, TX13, 24)) hX hC (min_ (by decide)) rfl rfl) hl.1 rfl (Nat.le_of_ble_eq_true rfl) ⟨Nat.zero_le _, Nat.zero_le _⟩ dX13_readItem_90 (fun _ H locs hC => ?_)
      refine W.eq (g2 := F0 m 93 ls [.int (b2i (p_wd tp 16 S))]) rfl ?_
      refine fb_eq (tgt := 107) hx hb dX13_readItem_93 (by decide) (fun c_6 => ?_) (fun c_6 => ?_)
      · refine lv_aload_n hx hb dX13_readItem_107 rfl (lv_at hl 1 rfl) ?_
        refine va_ldcwS hx hb hown (hX.2.2.1.str (i := 17) q1802 (by decide) rfl) dX13_readItem_108 ?_
        refine fc_V (As := [.ref (G.adK 17)]) (rest := []) hx hb hml hown hts hX hC (m_X13_isWord (sc := sc) (L := L) (S := S) (im := im) (sn := sn) hL hS 17 (by decide)) (lw_V q1756 q1758 qs97 q124 q1759) hdV_X13_isWord ⟨rfl, rfl⟩ ⟨Nat.le_of_ble_eq_true rfl, Nat.le_of_ble_eq_true rfl⟩ (fx_recv (g := 0) (i := 0) (ci := 0) (q := (RX13, TX13, 24)) hX hC (min_ (by decide)) rfl rfl) hl.1 rfl (Nat.le_of_ble_eq_true rfl) ⟨Nat.zero_le _, Nat.zero_le _⟩ dX13_readItem_111 (fun _ H locs hC => ?_)
        refine W.eq (g2 := F0 m 114 ls [.int (b2i (p_wd tp 17 S))]) rfl ?_
        refine fb_eq (tgt := 128) hx hb dX13_readItem_114 (by decide) (fun c_8 => ?_) (fun c_8 => ?_)
        · refine lv_aload_n hx hb dX13_readItem_128 rfl (lv_at hl 1 rfl) ?_
          refine lv_aload_n hx hb dX13_readItem_129 rfl (lv_at hl 1 rfl) ?_
          refine va_ldcwS hx hb hown (hX.2.2.1.str (i := 18) q1803 (by decide) rfl) dX13_readItem_130 ?_
          refine fc_V (As := [.ref (G.adK 18)]) (rest := [.ref (G.ad 0 0)]) hx hb hml hown hts hX hC (m_X13_isWord (sc := sc) (L := L) (S := S) (im := im) (sn := sn) hL hS 18 (by decide)) (lw_V q1756 q1758 qs97 q124 q1759) hdV_X13_isWord ⟨rfl, rfl⟩ ⟨Nat.le_of_ble_eq_true rfl, Nat.le_of_ble_eq_true rfl⟩ (fx_recv (g := 0) (i := 0) (ci := 0) (q := (RX13, TX13, 24)) hX hC (min_ (by decide)) rfl rfl) hl.1 rfl (Nat.le_of_ble_eq_true rfl) ⟨Nat.zero_le _, Nat.zero_le _⟩ dX13_readItem_133 (fun _ H locs hC => ?_)
          refine W.eq (g2 := F0 m 136 ls [.int (b2i (p_wd tp 18 S)), .ref (G.ad 0 0)]) rfl ?_
          refine fc_V (As := [.int (b2i (p_wd tp 18 S))]) (rest := []) hx hb hml hown hts hX hC (m_X13_must (sc := sc) (L := L) (S := S) (im := im) (sn := sn) hL hS (p_wd tp 18 S)) (lw_V q1769 q1771 qs98 q124 q1772) hdV_X13_must ⟨rfl, rfl⟩ ⟨Nat.le_of_ble_eq_true rfl, Nat.le_of_ble_eq_true rfl⟩ (fx_recv (g := 0) (i := 0) (ci := 0) (q := (RX13, TX13, 24)) hX hC (min_ (by decide)) rfl rfl) hl.1 rfl (Nat.le_of_ble_eq_true rfl) ⟨Nat.zero_le _, Nat.zero_le _⟩ dX13_readItem_136 (fun _ H locs hC => ?_)
          refine W.eq (g2 := F0 m 139 ls []) rfl ?_
          refine lv_aload_n hx hb dX13_readItem_139 rfl (lv_at hl 1 rfl) ?_
          refine lv_iconst (v := 0) hx hb dX13_readItem_140 rfl ?_
          refine lv_bipush (v := 35) hx hb dX13_readItem_141 rfl ?_
          refine fc_V (As := [.int 0, .int 35]) (rest := []) hx hb hml hown hts hX hC (m_X13_number (sc := sc) (L := L) (S := (n_must (p_wd tp 18 S) tp L S)) (im := im) (sn := sn) hL (nmust_I hL hS) 0 35) (lw_V q1773 q1775 qs99 q124 q1776) hdV_X13_number ⟨rfl, rfl⟩ ⟨Nat.le_of_ble_eq_true rfl, Nat.le_of_ble_eq_true rfl⟩ (fx_recv (g := 0) (i := 0) (ci := 0) (q := (RX13, TX13, 24)) hX hC (min_ (by decide)) rfl rfl) hl.1 rfl (Nat.le_of_ble_eq_true rfl) ⟨Nat.zero_le _, Nat.zero_le _⟩ dX13_readItem_143 (fun _ H locs hC => ?_)
          refine W.eq (g2 := F0 m 146 ls [.int ((n_must (p_wd tp 18 S) tp L S).va)]) rfl ?_
          refine lv_istore_n (lv' := [(2, .int ((n_must (p_wd tp 18 S) tp L S).va)), (1, .int (n_wof tp 1 7 S)), (0, .ref (G.ad 0 0))]) hx hb dX13_readItem_146 rfl hl (by decide) rfl (fun ls hl => ?_)
          refine lv_aload_n hx hb dX13_readItem_147 rfl (lv_at hl 2 rfl) ?_
          refine lv_bipush (v := 11) hx hb dX13_readItem_148 rfl ?_
          refine lv_iload_n hx hb dX13_readItem_150 rfl (lv_at hl 0 rfl) ?_
          refine lv_aload_n hx hb dX13_readItem_151 rfl (lv_at hl 2 rfl) ?_
          refine fc_V (As := []) (rest := [.int ((n_must (p_wd tp 18 S) tp L S).va), .int 11, .ref (G.ad 0 0)]) hx hb hml hown hts hX hC (m_X13_headingTold (sc := sc) (L := L) (S := (n_num 0 35 tp L (n_must (p_wd tp 18 S) tp L S))) (im := im) (sn := sn) hL (nmust_I hL (nmust_I hL hS))) (lw_V q1791 q1793 qs103 q124 q1794) hdV_X13_headingTold ⟨rfl, rfl⟩ ⟨Nat.le_of_ble_eq_true rfl, Nat.le_of_ble_eq_true rfl⟩ (fx_recv (g := 0) (i := 0) (ci := 0) (q := (RX13, TX13, 24)) hX hC (min_ (by decide)) rfl rfl) hl.1 rfl (Nat.le_of_ble_eq_true rfl) ⟨Nat.zero_le _, Nat.zero_le _⟩ dX13_readItem_152 (fun _ H locs hC => ?_)
          refine W.eq (g2 := F0 m 155 ls [.int (n_wof tp 8 4 (n_num 0 35 tp L (n_must (p_wd tp 18 S) tp L S))), .int ((n_must (p_wd tp 18 S) tp L S).va), .int 11, .ref (G.ad 0 0)]) rfl ?_
          refine lv_iconst (v := 0) hx hb dX13_readItem_155 rfl ?_
          refine lv_iconst (v := 0) hx hb dX13_readItem_156 rfl ?_
          refine fc_V (As := [.int 11, .int ((n_must (p_wd tp 18 S) tp L S).va), .int (n_wof tp 8 4 (n_num 0 35 tp L (n_must (p_wd tp 18 S) tp L S))), .int 0, .int 0]) (rest := []) hx hb hml hown hts hX hC (m_X13_addItem (sc := sc) (L := L) (S := (n_head tp L (n_num 0 35 tp L (n_must (p_wd tp 18 S) tp L S)))) (im := im) (sn := sn) hL 11 ((n_must (p_wd tp 18 S) tp L S).va) (n_wof tp 8 4 (n_num 0 35 tp L (n_must (p_wd tp 18 S) tp L S))) 0 0 him) (lw_V q1782 q1784 qs101 q124 q1785) hdV_X13_addItem ⟨rfl, rfl⟩ ⟨Nat.le_of_ble_eq_true rfl, Nat.le_of_ble_eq_true rfl⟩ (fx_recv (g := 0) (i := 0) (ci := 0) (q := (RX13, TX13, 24)) hX hC (min_ (by decide)) rfl rfl) hl.1 rfl (Nat.le_of_ble_eq_true rfl) ⟨Nat.zero_le _, Nat.zero_le _⟩ dX13_readItem_157 (fun _ H locs hC => ?_)
          refine W.eq (g2 := F0 m 160 ls []) rfl ?_
          exact fr_v hx hb hr hlocks hX hC () rfl ((congrArg (fun z => mct G (mpg d kp as bf z fd tp (p_item it im 11 ((n_must (p_wd tp 18 S) tp L S).va) (n_wof tp 8 4 (n_num 0 35 tp L (n_must (p_wd tp 18 S) tp L S))) 0 0) ws sz nu mv)) (by rw [n_item, if_pos c_2, if_neg c_4, if_neg c_6, if_neg c_8]; simp only [n_owl])).trans (congrArg (fun z => mct G (mpg d kp as bf (md sc L ((n_item tp L S sn).1) (im + 1) ((n_item tp L S sn).2.1)) fd tp z ws sz nu mv)) (by rw [n_item, if_pos c_2, if_neg c_4, if_neg c_6, if_neg c_8]; simp only [n_owl, p_itm]))) dX13_readItem_160
        · refine lv_aload_n hx hb dX13_readItem_117 rfl (lv_at hl 1 rfl) ?_
          refine lv_bipush (v := 13) hx hb dX13_readItem_118 rfl ?_
          refine lv_bipush (v := 99) hx hb dX13_readItem_120 rfl ?_
          refine fc_V (As := [.int 13, .int 99]) (rest := []) hx hb hml hown hts hX hC (m_X13_readLying (sc := sc) (L := L) (S := S) (im := im) (sn := sn) hL hS 13 99 him) (lw_V q1798 q1800 qs104 q124 q1801) hdV_X13_readLying ⟨rfl, rfl⟩ ⟨Nat.le_of_ble_eq_true rfl, Nat.le_of_ble_eq_true rfl⟩ (fx_recv (g := 0) (i := 0) (ci := 0) (q := (RX13, TX13, 24)) hX hC (min_ (by decide)) rfl rfl) hl.1 rfl (Nat.le_of_ble_eq_true rfl) ⟨Nat.zero_le _, Nat.zero_le _⟩ dX13_readItem_122 (fun _ H locs hC => ?_)
          refine W.eq (g2 := F0 m 125 ls []) rfl ?_
          refine lv_goto (tgt := 160) hx hb dX13_readItem_125 (by decide) ?_
          exact fr_v hx hb hr hlocks hX hC () rfl ((congrArg (fun z => mct G (mpg d kp as bf z fd tp (p_itm it im (n_lie 13 99 tp L S sn)) ws sz nu mv)) (by rw [n_item, if_pos c_2, if_neg c_4, if_neg c_6, if_pos c_8])).trans (congrArg (fun z => mct G (mpg d kp as bf (md sc L ((n_item tp L S sn).1) (im + 1) ((n_item tp L S sn).2.1)) fd tp z ws sz nu mv)) (by rw [n_item, if_pos c_2, if_neg c_4, if_neg c_6, if_pos c_8]))) dX13_readItem_160
      · refine lv_aload_n hx hb dX13_readItem_96 rfl (lv_at hl 1 rfl) ?_
        refine lv_bipush (v := 12) hx hb dX13_readItem_97 rfl ?_
        refine lv_bipush (v := 30) hx hb dX13_readItem_99 rfl ?_
        refine fc_V (As := [.int 12, .int 30]) (rest := []) hx hb hml hown hts hX hC (m_X13_readLying (sc := sc) (L := L) (S := S) (im := im) (sn := sn) hL hS 12 30 him) (lw_V q1798 q1800 qs104 q124 q1801) hdV_X13_readLying ⟨rfl, rfl⟩ ⟨Nat.le_of_ble_eq_true rfl, Nat.le_of_ble_eq_true rfl⟩ (fx_recv (g := 0) (i := 0) (ci := 0) (q := (RX13, TX13, 24)) hX hC (min_ (by decide)) rfl rfl) hl.1 rfl (Nat.le_of_ble_eq_true rfl) ⟨Nat.zero_le _, Nat.zero_le _⟩ dX13_readItem_101 (fun _ H locs hC => ?_)
        refine W.eq (g2 := F0 m 104 ls []) rfl ?_
        refine lv_goto (tgt := 160) hx hb dX13_readItem_104 (by decide) ?_
        exact fr_v hx hb hr hlocks hX hC () rfl ((congrArg (fun z => mct G (mpg d kp as bf z fd tp (p_itm it im (n_lie 12 30 tp L S sn)) ws sz nu mv)) (by rw [n_item, if_pos c_2, if_neg c_4, if_pos c_6])).trans (congrArg (fun z => mct G (mpg d kp as bf (md sc L ((n_item tp L S sn).1) (im + 1) ((n_item tp L S sn).2.1)) fd tp z ws sz nu mv)) (by rw [n_item, if_pos c_2, if_neg c_4, if_pos c_6]))) dX13_readItem_160
    · refine lv_aload_n hx hb dX13_readItem_79 rfl (lv_at hl 1 rfl) ?_
      refine fc_V (As := []) (rest := []) hx hb hml hown hts hX hC (m_X13_readMouse (sc := sc) (L := L) (S := S) (im := im) (sn := sn) hL hS him) (lw_V q1787 q1789 qs102 q124 q1790) hdV_X13_readMouse ⟨rfl, rfl⟩ ⟨Nat.le_of_ble_eq_true rfl, Nat.le_of_ble_eq_true rfl⟩ (fx_recv (g := 0) (i := 0) (ci := 0) (q := (RX13, TX13, 24)) hX hC (min_ (by decide)) rfl rfl) hl.1 rfl (Nat.le_of_ble_eq_true rfl) ⟨Nat.zero_le _, Nat.zero_le _⟩ dX13_readItem_80 (fun _ H locs hC => ?_)
      refine W.eq (g2 := F0 m 83 ls []) rfl ?_
      refine lv_goto (tgt := 160) hx hb dX13_readItem_83 (by decide) ?_
      exact fr_v hx hb hr hlocks hX hC () rfl ((congrArg (fun z => mct G (mpg d kp as bf z fd tp (p_itm it im (n_mouse tp L S sn)) ws sz nu mv)) (by rw [n_item, if_pos c_2, if_pos c_4])).trans (congrArg (fun z => mct G (mpg d kp as bf (md sc L ((n_item tp L S sn).1) (im + 1) ((n_item tp L S sn).2.1)) fd tp z ws sz nu mv)) (by rw [n_item, if_pos c_2, if_pos c_4]))) dX13_readItem_160
  · refine lv_aload_n hx hb dX13_readItem_13 rfl (lv_at hl 1 rfl) ?_
    refine lv_aload_n hx hb dX13_readItem_14 rfl (lv_at hl 1 rfl) ?_
    refine fg_get (C := RX13) (T := TX13) (N := 24) (ci := 0) (g := 0) (i := 0) (v := .int sn) hx hb hown hts hX hC in_X13 rfl (min_ (by decide)) rfl 19 (by decide) q1329 (fun _ h => h) rfl dX13_readItem_15 ?_
    refine lv_bipush (v := 8) hx hb dX13_readItem_18 rfl ?_
    refine fw_joinb (C := sn < 8) (pcj := 28) (ls := ls) (rest := [.ref (G.ad 0 0)]) (fun ja jb => ?_) ?_
    · refine fj_ge (tgt := 27) hx hb dX13_readItem_20 (by decide) (fun c_17 => ?_) (fun c_17 => ?_)
      · refine lv_iconst (v := 0) hx hb dX13_readItem_27 rfl ?_
        exact jb c_17
      · refine lv_iconst (v := 1) hx hb dX13_readItem_23 rfl ?_
        refine lv_goto (tgt := 28) hx hb dX13_readItem_24 (by decide) ?_
        exact ja c_17
    refine fc_V (As := [.int (b2i (sn < 8))]) (rest := []) hx hb hml hown hts hX hC (m_X13_must (sc := sc) (L := L) (S := S) (im := im) (sn := sn) hL hS (sn < 8)) (lw_V q1769 q1771 qs98 q124 q1772) hdV_X13_must ⟨rfl, rfl⟩ ⟨Nat.le_of_ble_eq_true rfl, Nat.le_of_ble_eq_true rfl⟩ (fx_recv (g := 0) (i := 0) (ci := 0) (q := (RX13, TX13, 24)) hX hC (min_ (by decide)) rfl rfl) hl.1 rfl (Nat.le_of_ble_eq_true rfl) ⟨Nat.zero_le _, Nat.zero_le _⟩ dX13_readItem_28 (fun _ H locs hC => ?_)
    refine W.eq (g2 := F0 m 31 ls []) rfl ?_
    refine lv_aload_n hx hb dX13_readItem_31 rfl (lv_at hl 1 rfl) ?_
    refine lv_dup hx hb dX13_readItem_32 rfl ?_
    refine fg_get (C := RX13) (T := TX13) (N := 24) (ci := 0) (g := 0) (i := 0) (v := .int sn) hx hb hown hts hX hC in_X13 rfl (min_ (by decide)) rfl 19 (by decide) q1329 (fun _ h => h) rfl dX13_readItem_33 ?_
    refine lv_iconst (v := 1) hx hb dX13_readItem_36 rfl ?_
    refine lv_iadd hx hb dX13_readItem_37 ?_
    refine fg_put (C := RX13) (T := TX13) (N := 24) (ci := 0) (g := 0) (i := 0) hx hb hown hts hX hC in_X13 tyX13 tyX13_ok nmX13 rfl (min_ (by decide)) rfl 19 (by decide) q1329 (fun _ h => h) rfl rfl rfl (Nat.le_of_ble_eq_true rfl) (mct G (mpg d kp as bf (md sc L (n_must (sn < 8) tp L S) im (sn + 1)) fd tp it ws sz nu mv)) ms_md dX13_readItem_38 (fun H locs hC => ?_)
    refine lv_aload_n hx hb dX13_readItem_41 rfl (lv_at hl 1 rfl) ?_
    refine lv_iconst (v := 0) hx hb dX13_readItem_42 rfl ?_
    refine lv_bipush (v := 35) hx hb dX13_readItem_43 rfl ?_
    refine fc_V (As := [.int 0, .int 35]) (rest := []) hx hb hml hown hts hX hC (m_X13_number (sc := sc) (L := L) (S := (n_must (sn < 8) tp L S)) (im := im) (sn := (sn + 1)) hL (nmust_I hL hS) 0 35) (lw_V q1773 q1775 qs99 q124 q1776) hdV_X13_number ⟨rfl, rfl⟩ ⟨Nat.le_of_ble_eq_true rfl, Nat.le_of_ble_eq_true rfl⟩ (fx_recv (g := 0) (i := 0) (ci := 0) (q := (RX13, TX13, 24)) hX hC (min_ (by decide)) rfl rfl) hl.1 rfl (Nat.le_of_ble_eq_true rfl) ⟨Nat.zero_le _, Nat.zero_le _⟩ dX13_readItem_45 (fun _ H locs hC => ?_)
    refine W.eq (g2 := F0 m 48 ls [.int ((n_must (sn < 8) tp L S).va)]) rfl ?_
    refine lv_istore_n (lv' := [(2, .int ((n_must (sn < 8) tp L S).va)), (1, .int (n_wof tp 1 7 S)), (0, .ref (G.ad 0 0))]) hx hb dX13_readItem_48 rfl hl (by decide) rfl (fun ls hl => ?_)
    refine lv_aload_n hx hb dX13_readItem_49 rfl (lv_at hl 2 rfl) ?_
    refine lv_iload_n hx hb dX13_readItem_50 rfl (lv_at hl 1 rfl) ?_
    refine lv_iload_n hx hb dX13_readItem_51 rfl (lv_at hl 0 rfl) ?_
    refine lv_aload_n hx hb dX13_readItem_52 rfl (lv_at hl 2 rfl) ?_
    refine va_ldcwS hx hb hown (hX.2.2.1.str (i := 12) q1777 (by decide) rfl) dX13_readItem_53 ?_
    refine lv_iconst (v := 0) hx hb dX13_readItem_56 rfl ?_
    refine lv_iconst (v := 0) hx hb dX13_readItem_57 rfl ?_
    refine fc_V (As := [.ref (G.adK 12), .int 0, .int 0]) (rest := [.int ((n_must (sn < 8) tp L S).va), .int (n_wof tp 1 7 S), .ref (G.ad 0 0)]) hx hb hml hown hts hX hC (m_X13_afterWord (sc := sc) (L := L) (S := (n_num 0 35 tp L (n_must (sn < 8) tp L S))) (im := im) (sn := (sn + 1)) hL (nmust_I hL (nmust_I hL hS)) 12 (by decide) 0 0) (lw_V q1778 q1780 qs100 q124 q1781) hdV_X13_afterWord ⟨rfl, rfl⟩ ⟨Nat.le_of_ble_eq_true rfl, Nat.le_of_ble_eq_true rfl⟩ (fx_recv (g := 0) (i := 0) (ci := 0) (q := (RX13, TX13, 24)) hX hC (min_ (by decide)) rfl rfl) hl.1 rfl (Nat.le_of_ble_eq_true rfl) ⟨Nat.zero_le _, Nat.zero_le _⟩ dX13_readItem_58 (fun _ H locs hC => ?_)
    refine W.eq (g2 := F0 m 61 ls [.int ((n_aft 12 0 0 tp L (n_num 0 35 tp L (n_must (sn < 8) tp L S))).2), .int ((n_must (sn < 8) tp L S).va), .int (n_wof tp 1 7 S), .ref (G.ad 0 0)]) rfl ?_
    refine lv_iconst (v := 0) hx hb dX13_readItem_61 rfl ?_
    refine lv_iconst (v := 0) hx hb dX13_readItem_62 rfl ?_
    refine fc_V (As := [.int (n_wof tp 1 7 S), .int ((n_must (sn < 8) tp L S).va), .int ((n_aft 12 0 0 tp L (n_num 0 35 tp L (n_must (sn < 8) tp L S))).2), .int 0, .int 0]) (rest := []) hx hb hml hown hts hX hC (m_X13_addItem (sc := sc) (L := L) (S := ((n_aft 12 0 0 tp L (n_num 0 35 tp L (n_must (sn < 8) tp L S))).1)) (im := im) (sn := (sn + 1)) hL (n_wof tp 1 7 S) ((n_must (sn < 8) tp L S).va) ((n_aft 12 0 0 tp L (n_num 0 35 tp L (n_must (sn < 8) tp L S))).2) 0 0 him) (lw_V q1782 q1784 qs101 q124 q1785) hdV_X13_addItem ⟨rfl, rfl⟩ ⟨Nat.le_of_ble_eq_true rfl, Nat.le_of_ble_eq_true rfl⟩ (fx_recv (g := 0) (i := 0) (ci := 0) (q := (RX13, TX13, 24)) hX hC (min_ (by decide)) rfl rfl) hl.1 rfl (Nat.le_of_ble_eq_true rfl) ⟨Nat.zero_le _, Nat.zero_le _⟩ dX13_readItem_63 (fun _ H locs hC => ?_)
    refine W.eq (g2 := F0 m 66 ls []) rfl ?_
    refine lv_goto (tgt := 160) hx hb dX13_readItem_66 (by decide) ?_
    exact fr_v hx hb hr hlocks hX hC () rfl ((congrArg (fun z => mct G (mpg d kp as bf z fd tp (p_item it im (n_wof tp 1 7 S) ((n_must (sn < 8) tp L S).va) ((n_aft 12 0 0 tp L (n_num 0 35 tp L (n_must (sn < 8) tp L S))).2) 0 0) ws sz nu mv)) (by rw [n_item, if_neg c_2]; simp only [n_strike])).trans (congrArg (fun z => mct G (mpg d kp as bf (md sc L ((n_item tp L S sn).1) (im + 1) ((n_item tp L S sn).2.1)) fd tp z ws sz nu mv)) (by rw [n_item, if_neg c_2]; simp only [n_strike, p_itm]))) dX13_readItem_160
