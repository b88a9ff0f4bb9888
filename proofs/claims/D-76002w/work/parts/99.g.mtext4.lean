theorem hdV_X13_tellsTo : yX13_tellsTo.cls = RX13 ∧ yX13_tellsTo.cls ≠ "java/lang/invoke/MethodHandle" ∧ yX13_tellsTo.cls ≠ "java/lang/invoke/VarHandle" ∧ (parseMethodDescriptor yX13_tellsTo.desc).map (fun d => d.parameters.length) = some 2 := by decide +kernel
set_option maxRecDepth 100000 in
theorem m_X13_tellsTo {l : Launch} {G : Gm} {d kp as bf sc fd tp it ws sz nu mv : Row} (pl v : Int32) (q : Nat) (hq : ix pl = q) (hin : vp_in pl 124) : Cm l yX13_tellsTo (ws_ yX13_tellsTo cX13_tellsTo 3 none) ({ frames := 0, cells := 0, slots := 0, locals := 0 }) (mF G) [.ref (G.ad 0 0), .int pl, .int v] (mct G (mpg d kp as bf sc fd tp it ws sz nu mv)) (fun _ : Unit => none) (fun _ => mct G (mpg (p_tel d q v) kp as bf sc fd tp it ws sz nu mv)) := by
  refine Cm.start (by decide) (Nat.le_of_ble_eq_true rfl) ?_
  intro p e s m below meth c hf hX hC ls hl
  obtain ⟨hx, hb, hr, hml, hown, hts, hlocks⟩ := hf
  have hl : lv_has ls 3 [(0, .ref (G.ad 0 0)), (1, .int pl), (2, .int v)] := hl
  have hown : s.vm.findClass "OwlEarsModel" = some m.cls := hown
  refine lv_aload_n hx hb dX13_tellsTo_0 rfl (lv_at hl 0 rfl) ?_
  refine fg_get (C := RX13) (T := TX13) (N := 24) (ci := 0) (g := 0) (i := 0) (v := .ref (G.ad 0 1)) hx hb hown hts hX hC in_X13 rfl (min_ (by decide)) rfl 0 (by decide) q1310 (fun _ h => h) rfl dX13_tellsTo_1 ?_
  refine lv_iload_n hx hb dX13_tellsTo_4 rfl (lv_at hl 1 rfl) ?_
  refine lv_iload_n hx hb dX13_tellsTo_5 rfl (lv_at hl 2 rfl) ?_
  refine fw_join (C := v < 0) (a := d q) (b := v) (pcj := 19) (ls := ls) (rest := [.int pl, .ref (G.ad 0 1)]) (fun ja jb => ?_) ?_
  · refine fi_ge (tgt := 18) hx hb dX13_tellsTo_6 (by decide) (fun c_1 => ?_) (fun c_1 => ?_)
    · refine lv_iload_n hx hb dX13_tellsTo_18 rfl (lv_at hl 2 rfl) ?_
      exact jb c_1
    · refine lv_aload_n hx hb dX13_tellsTo_9 rfl (lv_at hl 0 rfl) ?_
      refine fg_get (C := RX13) (T := TX13) (N := 24) (ci := 0) (g := 0) (i := 0) (v := .ref (G.ad 0 1)) hx hb hown hts hX hC in_X13 rfl (min_ (by decide)) rfl 0 (by decide) q1310 (fun _ h => h) rfl dX13_tellsTo_10 ?_
      refine lv_iload_n hx hb dX13_tellsTo_13 rfl (lv_at hl 1 rfl) ?_
      refine fg_iald (g := 0) (i := 1) (t0 := 0) (v := d q) hx hb hX hC (min_ (by decide)) rfl rfl hin (congrArg d hq) dX13_tellsTo_14 ?_
      refine lv_goto (tgt := 19) hx hb dX13_tellsTo_15 (by decide) ?_
      exact ja c_1
  refine fg_iast (g := 0) (i := 1) (t0 := 0) hx hb hX hC (min_ (by decide)) rfl rfl hin (mct G (mpg (upd d q (if v < 0 then d q else v)) kp as bf sc fd tp it ws sz nu mv)) (mu mp1 (mst hq)) dX13_tellsTo_19 (fun H locs hC => ?_)
  exact fr_v hx hb hr hlocks hX hC () rfl (congrArg (fun z => mct G (mpg z kp as bf sc fd tp it ws sz nu mv)) (rfl)) dX13_tellsTo_20
theorem tel_n {w : Row} {q j : Nat} {v : Int32} (h : j ≠ q) : p_tel w q v j = w j := upd_n h
theorem old_10 {w : Row} {a b c : Int32} : w 3 = upd (p_tel (p_tel (p_tel w 4 a) 5 b) 6 c) 7 0 3 := by rw [upd_n (by decide), tel_n (by decide), tel_n (by decide), tel_n (by decide)]
theorem old_11 {w : Row} {a : Int32} : w 8 = p_tel w 9 a 8 := (tel_n (by decide)).symm
set_option maxRecDepth 100000 in
theorem m_X13_isToldSo {l : Launch} {G : Gm} {d kp as bf sc fd tp it ws sz nu mv : Row} (hw : WF d) (n : Nat) (hn : n < 596) (ho : OKit it n d) : Cm l yX13_isToldSo (ws_ yX13_isToldSo cX13_isToldSo 4 (some .int)) ({ frames := 2, cells := 0, slots := 0, locals := 45 }) (mF G) [.ref (G.ad 0 0), .int (nI n)] (mct G (mpg d kp as bf sc fd tp it ws sz nu mv)) (fun _ : Unit => some (.int (p_old it n d))) (fun _ => mct G (mpg (p_tell it n d) kp as bf sc fd tp it ws sz nu mv)) := by
  refine Cm.start (by decide) (Nat.le_of_ble_eq_true rfl) ?_
  intro p e s m below meth c hf hX hC ls hl
  obtain ⟨hx, hb, hr, hml, hown, hts, hlocks⟩ := hf
  have hl : lv_has ls 4 [(0, .ref (G.ad 0 0)), (1, .int (nI n))] := hl
  have hown : s.vm.findClass "OwlEarsModel" = some m.cls := hown
  refine lv_aload_n hx hb dX13_isToldSo_0 rfl (lv_at hl 0 rfl) ?_
  refine fg_get (C := RX13) (T := TX13) (N := 24) (ci := 0) (g := 0) (i := 0) (v := .ref (G.ad 0 9)) hx hb hown hts hX hC in_X13 rfl (min_ (by decide)) rfl 17 (by decide) q1327 (fun _ h => h) rfl dX13_isToldSo_1 ?_
  refine lv_iload_n hx hb dX13_isToldSo_4 rfl (lv_at hl 1 rfl) ?_
  refine lv_iconst (v := 1) hx hb dX13_isToldSo_5 rfl ?_
  refine lv_iadd hx hb dX13_isToldSo_6 ?_
  rw [nI_1]
  refine fg_iald (g := 0) (i := 9) (t0 := 0) (v := it (n + 1)) hx hb hX hC (min_ (by decide)) rfl rfl (vp_in_nI (show n + 1 < 600 by omega) (by decide)) (congrArg it (nI_clamp (by omega))) dX13_isToldSo_7 ?_
  refine lv_istore_n (lv' := [(2, .int (it (n + 1))), (0, .ref (G.ad 0 0)), (1, .int (nI n))]) hx hb dX13_isToldSo_8 rfl hl (by decide) rfl (fun ls hl => ?_)
  refine lv_aload_n hx hb dX13_isToldSo_9 rfl (lv_at hl 1 rfl) ?_
  refine fg_get (C := RX13) (T := TX13) (N := 24) (ci := 0) (g := 0) (i := 0) (v := .ref (G.ad 0 9)) hx hb hown hts hX hC in_X13 rfl (min_ (by decide)) rfl 17 (by decide) q1327 (fun _ h => h) rfl dX13_isToldSo_10 ?_
  refine lv_iload_n hx hb dX13_isToldSo_13 rfl (lv_at hl 2 rfl) ?_
  refine lv_iconst (v := 2) hx hb dX13_isToldSo_14 rfl ?_
  refine lv_iadd hx hb dX13_isToldSo_15 ?_
  rw [show (2 : Int32) = nI 2 from rfl, nI_add]
  refine fg_iald (g := 0) (i := 9) (t0 := 0) (v := it (n + 2)) hx hb hX hC (min_ (by decide)) rfl rfl (vp_in_nI (show n + 2 < 600 by omega) (by decide)) (congrArg it (nI_clamp (by omega))) dX13_isToldSo_16 ?_
  refine lv_istore_n (lv' := [(3, .int (it (n + 2))), (2, .int (it (n + 1))), (0, .ref (G.ad 0 0)), (1, .int (nI n))]) hx hb dX13_isToldSo_17 rfl hl (by decide) rfl (fun ls hl => ?_)
  refine lv_aload_n hx hb dX13_isToldSo_18 rfl (lv_at hl 2 rfl) ?_
  refine fg_get (C := RX13) (T := TX13) (N := 24) (ci := 0) (g := 0) (i := 0) (v := .ref (G.ad 0 9)) hx hb hown hts hX hC in_X13 rfl (min_ (by decide)) rfl 17 (by decide) q1327 (fun _ h => h) rfl dX13_isToldSo_19 ?_
  refine lv_iload_n hx hb dX13_isToldSo_22 rfl (lv_at hl 3 rfl) ?_
  refine fg_iald (g := 0) (i := 9) (t0 := 0) (v := it n) hx hb hX hC (min_ (by decide)) rfl rfl (vp_in_nI (show n < 600 by omega) (by decide)) (congrArg it (nI_clamp (by omega))) dX13_isToldSo_23 ?_
  by_cases c_1 : (it n) = 10
  · refine lv_tableIn (off := 32) (tgt := 56) hx hb dX13_isToldSo_24 (by rw [c_1]; decide) (by rw [c_1]; decide) (by rw [c_1]; rfl) (by decide) ?_
    refine lv_aload_n hx hb dX13_isToldSo_56 rfl (lv_at hl 2 rfl) ?_
    refine lv_iconst (v := 4) hx hb dX13_isToldSo_57 rfl ?_
    refine lv_iload_n hx hb dX13_isToldSo_58 rfl (lv_at hl 0 rfl) ?_
    refine fc_V (As := [.int 4, .int (it (n + 2))]) (rest := []) hx hb hml hown hts hX hC (m_X13_tellsTo 4 (it (n + 2)) 4 rfl (vin_b rfl)) (lw_V q1808 q1810 qs106 q124 q1811) hdV_X13_tellsTo ⟨rfl, rfl⟩ ⟨Nat.le_of_ble_eq_true rfl, Nat.le_of_ble_eq_true rfl⟩ (fx_recv (g := 0) (i := 0) (ci := 0) (q := (RX13, TX13, 24)) hX hC (min_ (by decide)) rfl rfl) hl.1 rfl (Nat.le_of_ble_eq_true rfl) ⟨Nat.zero_le _, Nat.zero_le _⟩ dX13_isToldSo_59 (fun _ H locs hC => ?_)
    refine W.eq (g2 := F0 m 62 ls []) rfl ?_
    refine lv_aload_n hx hb dX13_isToldSo_62 rfl (lv_at hl 2 rfl) ?_
    refine lv_iconst (v := 5) hx hb dX13_isToldSo_63 rfl ?_
    refine lv_aload_n hx hb dX13_isToldSo_64 rfl (lv_at hl 2 rfl) ?_
    refine fg_get (C := RX13) (T := TX13) (N := 24) (ci := 0) (g := 0) (i := 0) (v := .ref (G.ad 0 9)) hx hb hown hts hX hC in_X13 rfl (min_ (by decide)) rfl 17 (by decide) q1327 (fun _ h => h) rfl dX13_isToldSo_65 ?_
    refine lv_iload_n hx hb dX13_isToldSo_68 rfl (lv_at hl 3 rfl) ?_
    refine lv_iconst (v := 3) hx hb dX13_isToldSo_69 rfl ?_
    refine lv_iadd hx hb dX13_isToldSo_70 ?_
    rw [show (3 : Int32) = nI 3 from rfl, nI_add]
    refine fg_iald (g := 0) (i := 9) (t0 := 0) (v := it (n + 3)) hx hb hX hC (min_ (by decide)) rfl rfl (vp_in_nI (show n + 3 < 600 by omega) (by decide)) (congrArg it (nI_clamp (by omega))) dX13_isToldSo_71 ?_
    refine fc_V (As := [.int 5, .int (it (n + 3))]) (rest := []) hx hb hml hown hts hX hC (m_X13_tellsTo 5 (it (n + 3)) 5 rfl (vin_b rfl)) (lw_V q1808 q1810 qs106 q124 q1811) hdV_X13_tellsTo ⟨rfl, rfl⟩ ⟨Nat.le_of_ble_eq_true rfl, Nat.le_of_ble_eq_true rfl⟩ (fx_recv (g := 0) (i := 0) (ci := 0) (q := (RX13, TX13, 24)) hX hC (min_ (by decide)) rfl rfl) hl.1 rfl (Nat.le_of_ble_eq_true rfl) ⟨Nat.zero_le _, Nat.zero_le _⟩ dX13_isToldSo_72 (fun _ H locs hC => ?_)
    refine W.eq (g2 := F0 m 75 ls []) rfl ?_
    refine lv_aload_n hx hb dX13_isToldSo_75 rfl (lv_at hl 2 rfl) ?_
    refine lv_bipush (v := 6) hx hb dX13_isToldSo_76 rfl ?_
    refine lv_aload_n hx hb dX13_isToldSo_78 rfl (lv_at hl 2 rfl) ?_
    refine fg_get (C := RX13) (T := TX13) (N := 24) (ci := 0) (g := 0) (i := 0) (v := .ref (G.ad 0 9)) hx hb hown hts hX hC in_X13 rfl (min_ (by decide)) rfl 17 (by decide) q1327 (fun _ h => h) rfl dX13_isToldSo_79 ?_
    refine lv_iload_n hx hb dX13_isToldSo_82 rfl (lv_at hl 3 rfl) ?_
    refine lv_iconst (v := 4) hx hb dX13_isToldSo_83 rfl ?_
    refine lv_iadd hx hb dX13_isToldSo_84 ?_
    rw [show (4 : Int32) = nI 4 from rfl, nI_add]
    refine fg_iald (g := 0) (i := 9) (t0 := 0) (v := it (n + 4)) hx hb hX hC (min_ (by decide)) rfl rfl (vp_in_nI (show n + 4 < 600 by omega) (by decide)) (congrArg it (nI_clamp (by omega))) dX13_isToldSo_85 ?_
    refine fc_V (As := [.int 6, .int (it (n + 4))]) (rest := []) hx hb hml hown hts hX hC (m_X13_tellsTo 6 (it (n + 4)) 6 rfl (vin_b rfl)) (lw_V q1808 q1810 qs106 q124 q1811) hdV_X13_tellsTo ⟨rfl, rfl⟩ ⟨Nat.le_of_ble_eq_true rfl, Nat.le_of_ble_eq_true rfl⟩ (fx_recv (g := 0) (i := 0) (ci := 0) (q := (RX13, TX13, 24)) hX hC (min_ (by decide)) rfl rfl) hl.1 rfl (Nat.le_of_ble_eq_true rfl) ⟨Nat.zero_le _, Nat.zero_le _⟩ dX13_isToldSo_86 (fun _ H locs hC => ?_)
    refine W.eq (g2 := F0 m 89 ls []) rfl ?_
    refine lv_aload_n hx hb dX13_isToldSo_89 rfl (lv_at hl 2 rfl) ?_
    refine fg_get (C := RX13) (T := TX13) (N := 24) (ci := 0) (g := 0) (i := 0) (v := .ref (G.ad 0 1)) hx hb hown hts hX hC in_X13 rfl (min_ (by decide)) rfl 0 (by decide) q1310 (fun _ h => h) rfl dX13_isToldSo_90 ?_
    refine lv_bipush (v := 7) hx hb dX13_isToldSo_93 rfl ?_
    refine lv_iconst (v := 0) hx hb dX13_isToldSo_95 rfl ?_
    refine fg_iast (g := 0) (i := 1) (t0 := 0) hx hb hX hC (min_ (by decide)) rfl rfl (vin_b rfl) (mct G (mpg (upd (p_tel (p_tel (p_tel d 4 (it (n + 2))) 5 (it (n + 3))) 6 (it (n + 4))) 7 0) kp as bf sc fd tp it ws sz nu mv)) (mu mp1 (fun _ _ h => h)) dX13_isToldSo_96 (fun H locs hC => ?_)
    refine lv_aload_n hx hb dX13_isToldSo_97 rfl (lv_at hl 2 rfl) ?_
    refine lv_iconst (v := 3) hx hb dX13_isToldSo_98 rfl ?_
    refine lv_iload_n hx hb dX13_isToldSo_99 rfl (lv_at hl 1 rfl) ?_
    refine fc_V (As := [.int 3, .int (it (n + 1))]) (rest := []) hx hb hml hown hts hX hC (m_X13_become 3 (it (n + 1)) 3 rfl (vin_b rfl)) (lw_V q1399 q1401 qs55 q124 q1402) hdV_X13_become ⟨rfl, rfl⟩ ⟨Nat.le_of_ble_eq_true rfl, Nat.le_of_ble_eq_true rfl⟩ (fx_recv (g := 0) (i := 0) (ci := 0) (q := (RX13, TX13, 24)) hX hC (min_ (by decide)) rfl rfl) hl.1 rfl (Nat.le_of_ble_eq_true rfl) ⟨Nat.zero_le _, Nat.zero_le _⟩ dX13_isToldSo_100 (fun _ H locs hC => ?_)
    refine W.eq (g2 := F0 m 103 ls [.int ((upd (p_tel (p_tel (p_tel d 4 (it (n + 2))) 5 (it (n + 3))) 6 (it (n + 4))) 7 0) 3)]) rfl ?_
    exact fr_i hx hb hr hlocks hX hC () (congrArg (fun z => some (Value.int z)) (by rw [p_old, if_pos c_1]; exact old_10)) (congrArg (fun z => mct G (mpg z kp as bf sc fd tp it ws sz nu mv)) (by rw [p_tell, if_pos c_1])) dX13_isToldSo_103
  by_cases c_2 : (it n) = 11
  · refine lv_tableIn (off := 80) (tgt := 104) hx hb dX13_isToldSo_24 (by rw [c_2]; decide) (by rw [c_2]; decide) (by rw [c_2]; rfl) (by decide) ?_
    refine lv_aload_n hx hb dX13_isToldSo_104 rfl (lv_at hl 2 rfl) ?_
    refine lv_bipush (v := 9) hx hb dX13_isToldSo_105 rfl ?_
    refine lv_iload_n hx hb dX13_isToldSo_107 rfl (lv_at hl 0 rfl) ?_
    refine fc_V (As := [.int 9, .int (it (n + 2))]) (rest := []) hx hb hml hown hts hX hC (m_X13_tellsTo 9 (it (n + 2)) 9 rfl (vin_b rfl)) (lw_V q1808 q1810 qs106 q124 q1811) hdV_X13_tellsTo ⟨rfl, rfl⟩ ⟨Nat.le_of_ble_eq_true rfl, Nat.le_of_ble_eq_true rfl⟩ (fx_recv (g := 0) (i := 0) (ci := 0) (q := (RX13, TX13, 24)) hX hC (min_ (by decide)) rfl rfl) hl.1 rfl (Nat.le_of_ble_eq_true rfl) ⟨Nat.zero_le _, Nat.zero_le _⟩ dX13_isToldSo_108 (fun _ H locs hC => ?_)
    refine W.eq (g2 := F0 m 111 ls []) rfl ?_
    refine lv_aload_n hx hb dX13_isToldSo_111 rfl (lv_at hl 2 rfl) ?_
    refine lv_bipush (v := 8) hx hb dX13_isToldSo_112 rfl ?_
    refine lv_iload_n hx hb dX13_isToldSo_114 rfl (lv_at hl 1 rfl) ?_
    refine fc_V (As := [.int 8, .int (it (n + 1))]) (rest := []) hx hb hml hown hts hX hC (m_X13_become 8 (it (n + 1)) 8 rfl (vin_b rfl)) (lw_V q1399 q1401 qs55 q124 q1402) hdV_X13_become ⟨rfl, rfl⟩ ⟨Nat.le_of_ble_eq_true rfl, Nat.le_of_ble_eq_true rfl⟩ (fx_recv (g := 0) (i := 0) (ci := 0) (q := (RX13, TX13, 24)) hX hC (min_ (by decide)) rfl rfl) hl.1 rfl (Nat.le_of_ble_eq_true rfl) ⟨Nat.zero_le _, Nat.zero_le _⟩ dX13_isToldSo_115 (fun _ H locs hC => ?_)
    refine W.eq (g2 := F0 m 118 ls [.int ((p_tel d 9 (it (n + 2))) 8)]) rfl ?_
    exact fr_i hx hb hr hlocks hX hC () (congrArg (fun z => some (Value.int z)) (by rw [p_old, if_neg c_1, if_pos c_2]; exact old_11)) (congrArg (fun z => mct G (mpg z kp as bf sc fd tp it ws sz nu mv)) (by rw [p_tell, if_neg c_1, if_pos c_2])) dX13_isToldSo_118
  by_cases c_3 : (it n) = 12
  · refine lv_tableIn (off := 95) (tgt := 119) hx hb dX13_isToldSo_24 (by rw [c_3]; decide) (by rw [c_3]; decide) (by rw [c_3]; rfl) (by decide) ?_
    refine lv_aload_n hx hb dX13_isToldSo_119 rfl (lv_at hl 2 rfl) ?_
    refine lv_bipush (v := 20) hx hb dX13_isToldSo_120 rfl ?_
    refine lv_iload_n hx hb dX13_isToldSo_122 rfl (lv_at hl 1 rfl) ?_
    refine lv_iadd hx hb dX13_isToldSo_123 ?_
    refine lv_iload_n hx hb dX13_isToldSo_124 rfl (lv_at hl 0 rfl) ?_
    refine fc_V (As := [.int (20 + (it (n + 1))), .int (it (n + 2))]) (rest := []) hx hb hml hown hts hX hC (m_X13_become (20 + (it (n + 1))) (it (n + 2)) (20 + ix (it (n + 1))) (ixp 20 (ho.1 (Or.inl c_3)) (by decide)) (vinp 20 (ho.1 (Or.inl c_3)) (by decide) (by decide))) (lw_V q1399 q1401 qs55 q124 q1402) hdV_X13_become ⟨rfl, rfl⟩ ⟨Nat.le_of_ble_eq_true rfl, Nat.le_of_ble_eq_true rfl⟩ (fx_recv (g := 0) (i := 0) (ci := 0) (q := (RX13, TX13, 24)) hX hC (min_ (by decide)) rfl rfl) hl.1 rfl (Nat.le_of_ble_eq_true rfl) ⟨Nat.zero_le _, Nat.zero_le _⟩ dX13_isToldSo_125 (fun _ H locs hC => ?_)
    refine W.eq (g2 := F0 m 128 ls [.int (d (20 + ix (it (n + 1))))]) rfl ?_
    exact fr_i hx hb hr hlocks hX hC () (congrArg (fun z => some (Value.int z)) (by rw [p_old, if_neg c_1, if_neg c_2, if_pos c_3])) (congrArg (fun z => mct G (mpg z kp as bf sc fd tp it ws sz nu mv)) (by rw [p_tell, if_neg c_1, if_neg c_2, if_pos c_3])) dX13_isToldSo_128
  by_cases c_4 : (it n) = 13
  · refine lv_tableIn (off := 105) (tgt := 129) hx hb dX13_isToldSo_24 (by rw [c_4]; decide) (by rw [c_4]; decide) (by rw [c_4]; rfl) (by decide) ?_
    refine lv_aload_n hx hb dX13_isToldSo_129 rfl (lv_at hl 2 rfl) ?_
    refine lv_bipush (v := 56) hx hb dX13_isToldSo_130 rfl ?_
    refine lv_iload_n hx hb dX13_isToldSo_132 rfl (lv_at hl 1 rfl) ?_
    refine lv_iadd hx hb dX13_isToldSo_133 ?_
    refine lv_iload_n hx hb dX13_isToldSo_134 rfl (lv_at hl 0 rfl) ?_
    refine fc_V (As := [.int (56 + (it (n + 1))), .int (it (n + 2))]) (rest := []) hx hb hml hown hts hX hC (m_X13_become (56 + (it (n + 1))) (it (n + 2)) (56 + ix (it (n + 1))) (ixp 56 (ho.1 (Or.inr c_4)) (by decide)) (vinp 56 (ho.1 (Or.inr c_4)) (by decide) (by decide))) (lw_V q1399 q1401 qs55 q124 q1402) hdV_X13_become ⟨rfl, rfl⟩ ⟨Nat.le_of_ble_eq_true rfl, Nat.le_of_ble_eq_true rfl⟩ (fx_recv (g := 0) (i := 0) (ci := 0) (q := (RX13, TX13, 24)) hX hC (min_ (by decide)) rfl rfl) hl.1 rfl (Nat.le_of_ble_eq_true rfl) ⟨Nat.zero_le _, Nat.zero_le _⟩ dX13_isToldSo_135 (fun _ H locs hC => ?_)
    refine W.eq (g2 := F0 m 138 ls [.int (d (56 + ix (it (n + 1))))]) rfl ?_
    exact fr_i hx hb hr hlocks hX hC () (congrArg (fun z => some (Value.int z)) (by rw [p_old, if_neg c_1, if_neg c_2, if_neg c_3, if_pos c_4])) (congrArg (fun z => mct G (mpg z kp as bf sc fd tp it ws sz nu mv)) (by rw [p_tell, if_neg c_1, if_neg c_2, if_neg c_3, if_pos c_4])) dX13_isToldSo_138
  refine lv_tableOut (tgt := 139) hx hb dX13_isToldSo_24 (tabo 10 4 (by decide) (fun k hk => match k, hk with | 0, _ => c_1 | 1, _ => c_2 | 2, _ => c_3 | 3, _ => c_4) rfl) (by decide) ?_
  refine lv_aload_n hx hb dX13_isToldSo_139 rfl (lv_at hl 2 rfl) ?_
  refine lv_aload_n hx hb dX13_isToldSo_140 rfl (lv_at hl 2 rfl) ?_
  refine fg_get (C := RX13) (T := TX13) (N := 24) (ci := 0) (g := 0) (i := 0) (v := .ref (G.ad 0 9)) hx hb hown hts hX hC in_X13 rfl (min_ (by decide)) rfl 17 (by decide) q1327 (fun _ h => h) rfl dX13_isToldSo_141 ?_
  refine lv_iload_n hx hb dX13_isToldSo_144 rfl (lv_at hl 3 rfl) ?_
  refine fg_iald (g := 0) (i := 9) (t0 := 0) (v := it n) hx hb hX hC (min_ (by decide)) rfl rfl (vp_in_nI (show n < 600 by omega) (by decide)) (congrArg it (nI_clamp (by omega))) dX13_isToldSo_145 ?_
  refine lv_iload_n hx hb dX13_isToldSo_146 rfl (lv_at hl 1 rfl) ?_
  refine lv_iload_n hx hb dX13_isToldSo_147 rfl (lv_at hl 0 rfl) ?_
  refine fc_V (As := [.int (it n), .int (it (n + 1)), .int (it (n + 2))]) (rest := []) hx hb hml hown hts hX hC (m_X13_comes hw (it n) (it (n + 1)) (it (n + 2)) (ho.2 c_1 c_2 c_3 c_4)) (lw_V q1456 q1458 qs61 q124 q1459) hdV_X13_comes ⟨rfl, rfl⟩ ⟨Nat.le_of_ble_eq_true rfl, Nat.le_of_ble_eq_true rfl⟩ (fx_recv (g := 0) (i := 0) (ci := 0) (q := (RX13, TX13, 24)) hX hC (min_ (by decide)) rfl rfl) hl.1 rfl (Nat.le_of_ble_eq_true rfl) ⟨Nat.zero_le _, Nat.zero_le _⟩ dX13_isToldSo_148 (fun _ H locs hC => ?_)
  refine W.eq (g2 := F0 m 151 ls [.int (d 1)]) rfl ?_
  exact fr_i hx hb hr hlocks hX hC () (congrArg (fun z => some (Value.int z)) (by rw [p_old, if_neg c_1, if_neg c_2, if_neg c_3, if_neg c_4])) (congrArg (fun z => mct G (mpg z kp as bf sc fd tp it ws sz nu mv)) (by rw [p_tell, if_neg c_1, if_neg c_2, if_neg c_3, if_neg c_4])) dX13_isToldSo_151
