theorem hdS_X13_cutTo : yX13_cutTo.cls ≠ "java/lang/invoke/MethodHandle" ∧ yX13_cutTo.cls ≠ "java/lang/invoke/VarHandle" ∧ (parseMethodDescriptor yX13_cutTo.desc).map (fun d => d.parameters.length) = some 2 := by decide +kernel
theorem ml0 {v : Int32} : p_mayLie 0 v ↔ p_in v 0 30 := by
  show (if (0 : Int32) = 0 then p_in v 0 30 else (0 : Int32) = 1 ∧ p_in v 0 99) ↔ _
  rw [if_pos rfl]
set_option maxRecDepth 100000 in
theorem m_X13_cutTo {l : Launch} {F : Fam} {ct : Ct} (v b : Int32) : Cm l yX13_cutTo (ws_ yX13_cutTo cX13_cutTo 2 (some .int)) ({ frames := 0, cells := 0, slots := 0, locals := 0 }) F [.int v, .int b] (ct) (fun _ : Unit => some (.int (p_cut v b))) (fun _ => ct) := by
  refine Cm.start (by decide) (Nat.le_of_ble_eq_true rfl) ?_
  intro p e s m below meth c hf hX hC ls hl
  obtain ⟨hx, hb, hr, hml, hown, hts, hlocks⟩ := hf
  have hl : lv_has ls 2 [(0, .int v), (1, .int b)] := hl
  have hown : s.vm.findClass "OwlEarsModel" = some m.cls := hown
  refine lv_iload_n hx hb dX13_cutTo_0 rfl (lv_at hl 1 rfl) ?_
  refine lv_bipush (v := 8) hx hb dX13_cutTo_1 rfl ?_
  refine lv_icmp_ne (tgt := 11) hx hb dX13_cutTo_3 (by decide) (fun c_1 => ?_) (fun c_1 => ?_)
  · refine lv_iload_n hx hb dX13_cutTo_11 rfl (lv_at hl 1 rfl) ?_
    refine lv_bipush (v := 16) hx hb dX13_cutTo_12 rfl ?_
    refine lv_icmp_ne (tgt := 22) hx hb dX13_cutTo_14 (by decide) (fun c_2 => ?_) (fun c_2 => ?_)
    · refine lv_iload_n hx hb dX13_cutTo_22 rfl (lv_at hl 0 rfl) ?_
      exact fr_i hx hb hr hlocks hX hC () (congrArg (fun z => some (Value.int z)) (by first | rfl | (simp [p_cut, vp_nar_byte, vp_nar_short, c_1, c_2]))) rfl dX13_cutTo_23
    · refine lv_iload_n hx hb dX13_cutTo_17 rfl (lv_at hl 0 rfl) ?_
      refine lv_i2s (v := v.toInt16.toInt32) hx hb dX13_cutTo_18 rfl ?_
      refine lv_goto (tgt := 23) hx hb dX13_cutTo_19 (by decide) ?_
      exact fr_i hx hb hr hlocks hX hC () (congrArg (fun z => some (Value.int z)) (by first | rfl | (simp [p_cut, vp_nar_byte, vp_nar_short, c_1, c_2]))) rfl dX13_cutTo_23
  · refine lv_iload_n hx hb dX13_cutTo_6 rfl (lv_at hl 0 rfl) ?_
    refine lv_i2b (v := v.toInt8.toInt32) hx hb dX13_cutTo_7 rfl ?_
    refine lv_goto (tgt := 23) hx hb dX13_cutTo_8 (by decide) ?_
    exact fr_i hx hb hr hlocks hX hC () (congrArg (fun z => some (Value.int z)) (by first | rfl | (simp [p_cut, vp_nar_byte, vp_nar_short, c_1]))) rfl dX13_cutTo_23
set_option maxRecDepth 100000 in
theorem m_X13_sheet {l : Launch} {G : Gm} {d kp as bf sc fd tp it ws sz nu mv : Row} (s0 b n : Int32) : Cm l yX13_sheet (ws_ yX13_sheet cX13_sheet 5 (some .int)) ({ frames := 2, cells := 0, slots := 0, locals := 42 }) (mF G) [.ref (G.ad 0 0), .int s0, .int b, .int n] (mct G (mpg d kp as bf sc fd tp it ws sz nu mv)) (fun _ : Unit => some (.int ((s_sheet fd ws sz nu s0 b n).1))) (fun _ => mct G (mpg d kp as bf sc ((s_sheet fd ws sz nu s0 b n).2.2.2.2) tp it ((s_sheet fd ws sz nu s0 b n).2.1) ((s_sheet fd ws sz nu s0 b n).2.2.1) ((s_sheet fd ws sz nu s0 b n).2.2.2.1) mv)) := by
  refine Cm.start (by decide) (Nat.le_of_ble_eq_true rfl) ?_
  intro p e s m below meth c hf hX hC ls hl
  obtain ⟨hx, hb, hr, hml, hown, hts, hlocks⟩ := hf
  have hl : lv_has ls 5 [(0, .ref (G.ad 0 0)), (1, .int s0), (2, .int b), (3, .int n)] := hl
  have hown : s.vm.findClass "OwlEarsModel" = some m.cls := hown
  refine lv_iload_n hx hb dX13_sheet_0 rfl (lv_at hl 1 rfl) ?_
  refine fc_S (As := [.int s0]) (rest := []) hx hb hml hown hts hX hC (m_X13_isSheet s0) (lw_S q1691 q1692 q124 q1693) hdS_X13_isSheet ⟨rfl, rfl⟩ ⟨Nat.le_of_ble_eq_true rfl, Nat.le_of_ble_eq_true rfl⟩ hl.1 rfl (Nat.le_of_ble_eq_true rfl) ⟨Nat.zero_le _, Nat.zero_le _⟩ dX13_sheet_1 (fun _ H locs hC => ?_)
  refine W.eq (g2 := F0 m 4 ls [.int (b2i (p_in s0 0 3))]) rfl ?_
  refine fb_eq (tgt := 29) hx hb dX13_sheet_4 (by decide) (fun c_2 => ?_) (fun c_2 => ?_)
  · refine lv_aload_n hx hb dX13_sheet_29 rfl (lv_at hl 0 rfl) ?_
    refine lv_ldc (v := (-1000001)) hx hb hown (hts _ q1403) dX13_sheet_30 ?_
    refine fc_V (As := [.int (-1000001)]) (rest := []) hx hb hml hown hts hX hC (m_X13_finding 0 (vin_b rfl)) (lw_V q1404 q1406 qs56 q124 q1407) hdV_X13_finding ⟨rfl, rfl⟩ ⟨Nat.le_of_ble_eq_true rfl, Nat.le_of_ble_eq_true rfl⟩ (fx_recv (g := 0) (i := 0) (ci := 0) (q := (RX13, TX13, 24)) hX hC (min_ (by decide)) rfl rfl) hl.1 rfl (Nat.le_of_ble_eq_true rfl) ⟨Nat.zero_le _, Nat.zero_le _⟩ dX13_sheet_32 (fun _ H locs hC => ?_)
    refine W.eq (g2 := F0 m 35 ls [.int (-1000001)]) rfl ?_
    have hs : s_sheet fd ws sz nu s0 b n = (((-1000001), ws, sz, nu, p_find fd 0) : Int32 × Row × Row × Row × Row) := by grind [s_sheet]
    exact fr_i hx hb hr hlocks hX hC () (congrArg (fun z => some (Value.int z)) (t5_1 hs)) ((((congrArg (fun z => mct G (mpg d kp as bf sc ((s_sheet fd ws sz nu s0 b n).2.2.2.2) tp it z ((s_sheet fd ws sz nu s0 b n).2.2.1) ((s_sheet fd ws sz nu s0 b n).2.2.2.1) mv)) (t5_2 hs)).trans (congrArg (fun z => mct G (mpg d kp as bf sc ((s_sheet fd ws sz nu s0 b n).2.2.2.2) tp it ws z ((s_sheet fd ws sz nu s0 b n).2.2.2.1) mv)) (t5_3 hs))).trans (congrArg (fun z => mct G (mpg d kp as bf sc ((s_sheet fd ws sz nu s0 b n).2.2.2.2) tp it ws sz z mv)) (t5_4 hs))).trans (congrArg (fun z => mct G (mpg d kp as bf sc z tp it ws sz nu mv)) (t5_5 hs))).symm dX13_sheet_35
  · refine lv_iload_n hx hb dX13_sheet_7 rfl (lv_at hl 2 rfl) ?_
    refine lv_if_eq (tgt := 36) hx hb dX13_sheet_8 (by decide) (fun c_3 => ?_) (fun c_3 => ?_)
    · refine lv_iload_n hx hb dX13_sheet_36 rfl (lv_at hl 3 rfl) ?_
      refine fi_ge (tgt := 48) hx hb dX13_sheet_37 (by decide) (fun c_4 => ?_) (fun c_4 => ?_)
      · refine lv_iload_n hx hb dX13_sheet_48 rfl (lv_at hl 3 rfl) ?_
        refine lv_bipush (v := 40) hx hb dX13_sheet_49 rfl ?_
        refine fj_le (tgt := 61) hx hb dX13_sheet_51 (by decide) (fun c_5 => ?_) (fun c_5 => ?_)
        · refine lv_aload_n hx hb dX13_sheet_61 rfl (lv_at hl 0 rfl) ?_
          refine fg_get (C := RX13) (T := TX13) (N := 24) (ci := 0) (g := 0) (i := 0) (v := .ref (G.ad 0 10)) hx hb hown hts hX hC in_X13 rfl (min_ (by decide)) rfl 20 (by decide) q1330 (fun _ h => h) rfl dX13_sheet_62 ?_
          refine lv_iload_n hx hb dX13_sheet_65 rfl (lv_at hl 1 rfl) ?_
          refine lv_iload_n hx hb dX13_sheet_66 rfl (lv_at hl 2 rfl) ?_
          refine fg_iast (g := 0) (i := 10) (t0 := 0) hx hb hX hC (min_ (by decide)) rfl rfl (vin_of c_2 4 (by decide)) (mct G (mpg d kp as bf sc fd tp it (upd ws (ix s0) b) sz nu mv)) (mu mp10 (mst rfl)) dX13_sheet_67 (fun H locs hC => ?_)
          refine lv_aload_n hx hb dX13_sheet_68 rfl (lv_at hl 0 rfl) ?_
          refine fg_get (C := RX13) (T := TX13) (N := 24) (ci := 0) (g := 0) (i := 0) (v := .ref (G.ad 0 11)) hx hb hown hts hX hC in_X13 rfl (min_ (by decide)) rfl 21 (by decide) q1331 (fun _ h => h) rfl dX13_sheet_69 ?_
          refine lv_iload_n hx hb dX13_sheet_72 rfl (lv_at hl 1 rfl) ?_
          refine lv_iload_n hx hb dX13_sheet_73 rfl (lv_at hl 2 rfl) ?_
          refine lv_if_ne (tgt := 81) hx hb dX13_sheet_74 (by decide) (fun z_6 => absurd c_3 z_6) (fun _ => ?_)
          refine lv_iconst (v := 0) hx hb dX13_sheet_77 rfl ?_
          refine lv_goto (tgt := 82) hx hb dX13_sheet_78 (by decide) ?_
          refine fg_iast (g := 0) (i := 11) (t0 := 0) hx hb hX hC (min_ (by decide)) rfl rfl (vin_of c_2 4 (by decide)) (mct G (mpg d kp as bf sc fd tp it (upd ws (ix s0) b) (upd sz (ix s0) 0) nu mv)) (mu mp11 (mst rfl)) dX13_sheet_82 (fun H locs hC => ?_)
          refine lv_iconst (v := 0) hx hb dX13_sheet_83 rfl ?_
          refine lv_istore (lv' := [(4, .int 0), (0, .ref (G.ad 0 0)), (1, .int s0), (2, .int b), (3, .int n)]) hx hb dX13_sheet_84 hl (by decide) rfl (fun ls hl => ?_)
          have L_7 : ∀ (k7 i7 : Nat), i7 + k7 = 40 → ∀ (H : Heap) (locs : List Loc), fC (mF G) (mct G (mpg d kp as bf sc fd tp it (upd ws (ix s0) b) (upd sz (ix s0) 0) (p_z0 nu (40 * ix s0) i7) mv)) s.heap H locs → ∀ ls : Array Slot, lv_has ls 5 [(4, .int (nI i7)), (0, .ref (G.ad 0 0)), (1, .int s0), (2, .int b), (3, .int n)] → WG p l e ({ frames := 2, cells := 0, slots := 0, locals := 42 }) s m (([.ref (G.ad 0 0), .int s0, .int b, .int n] : List Value).toArray) below meth c H locs (mF G) (fun _ : Unit => some (.int ((s_sheet fd ws sz nu s0 b n).1))) (fun _ => mct G (mpg d kp as bf sc ((s_sheet fd ws sz nu s0 b n).2.2.2.2) tp it ((s_sheet fd ws sz nu s0 b n).2.1) ((s_sheet fd ws sz nu s0 b n).2.2.1) ((s_sheet fd ws sz nu s0 b n).2.2.2.1) mv)) (F0 m 86 ls []) := by
            intro k7
            induction k7 with
            | zero =>
              intro i7 hi7 H locs hC ls hl
              obtain rfl : i7 = 40 := by omega
              refine lv_iload hx hb dX13_sheet_86 (lv_at hl 0 rfl) ?_
              refine lv_bipush (v := 40) hx hb dX13_sheet_88 rfl ?_
              refine fj_ge (tgt := 112) hx hb dX13_sheet_90 (by decide) (fun _ => ?_) (fun z_8 => absurd z_8 (nlt_ix (n := 40)))
              refine lv_aload_n hx hb dX13_sheet_112 rfl (lv_at hl 1 rfl) ?_
              refine fg_get (C := RX13) (T := TX13) (N := 24) (ci := 0) (g := 0) (i := 0) (v := .ref (G.ad 0 11)) hx hb hown hts hX hC in_X13 rfl (min_ (by decide)) rfl 21 (by decide) q1331 (fun _ h => h) rfl dX13_sheet_113 ?_
              refine lv_iload_n hx hb dX13_sheet_116 rfl (lv_at hl 2 rfl) ?_
              refine fg_iald (g := 0) (i := 11) (t0 := 0) (v := 0) hx hb hX hC (min_ (by decide)) rfl rfl (vin_of c_2 4 (by decide)) upd_s dX13_sheet_117 ?_
              have hs : s_sheet fd ws sz nu s0 b n = ((0, upd ws (ix s0) b, upd sz (ix s0) 0, p_z0 nu (40 * ix s0) 40, fd) : Int32 × Row × Row × Row × Row) := by grind [s_sheet]
              exact fr_i hx hb hr hlocks hX hC () (congrArg (fun z => some (Value.int z)) (t5_1 hs)) ((((congrArg (fun z => mct G (mpg d kp as bf sc ((s_sheet fd ws sz nu s0 b n).2.2.2.2) tp it z ((s_sheet fd ws sz nu s0 b n).2.2.1) ((s_sheet fd ws sz nu s0 b n).2.2.2.1) mv)) (t5_2 hs)).trans (congrArg (fun z => mct G (mpg d kp as bf sc ((s_sheet fd ws sz nu s0 b n).2.2.2.2) tp it (upd ws (ix s0) b) z ((s_sheet fd ws sz nu s0 b n).2.2.2.1) mv)) (t5_3 hs))).trans (congrArg (fun z => mct G (mpg d kp as bf sc ((s_sheet fd ws sz nu s0 b n).2.2.2.2) tp it (upd ws (ix s0) b) (upd sz (ix s0) 0) z mv)) (t5_4 hs))).trans (congrArg (fun z => mct G (mpg d kp as bf sc z tp it (upd ws (ix s0) b) (upd sz (ix s0) 0) (p_z0 nu (40 * ix s0) 40) mv)) (t5_5 hs))).symm dX13_sheet_118
            | succ k7 ih7 =>
              intro i7 hi7 H locs hC ls hl
              refine lv_iload hx hb dX13_sheet_86 (lv_at hl 0 rfl) ?_
              refine lv_bipush (v := 40) hx hb dX13_sheet_88 rfl ?_
              refine fj_ge (tgt := 112) hx hb dX13_sheet_90 (by decide) (fun z_9 => absurd (lt_ix (n := 40) (show i7 < 40 by omega)) z_9) (fun _ => ?_)
              refine lv_aload_n hx hb dX13_sheet_93 rfl (lv_at hl 1 rfl) ?_
              refine fg_get (C := RX13) (T := TX13) (N := 24) (ci := 0) (g := 0) (i := 0) (v := .ref (G.ad 0 12)) hx hb hown hts hX hC in_X13 rfl (min_ (by decide)) rfl 22 (by decide) q1332 (fun _ h => h) rfl dX13_sheet_94 ?_
              refine lv_bipush (v := 40) hx hb dX13_sheet_97 rfl ?_
              refine lv_iload_n hx hb dX13_sheet_99 rfl (lv_at hl 2 rfl) ?_
              refine lv_imul hx hb dX13_sheet_100 ?_
              refine lv_iload hx hb dX13_sheet_101 (lv_at hl 0 rfl) ?_
              refine lv_iadd hx hb dX13_sheet_103 ?_
              refine lv_iconst (v := 0) hx hb dX13_sheet_104 rfl ?_
              refine fg_iast (g := 0) (i := 12) (t0 := 0) hx hb hX hC (min_ (by decide)) rfl rfl (vins (vin_of c_2 4 (by decide)) (vp_in_nI (show i7 < 40 by omega) (by decide)) (by decide)) (mct G (mpg d kp as bf sc fd tp it (upd ws (ix s0) b) (upd sz (ix s0) 0) (upd (p_z0 nu (40 * ix s0) i7) (40 * ix s0 + i7) 0) mv)) (mu mp12 (mst ((ixs (vin_of c_2 4 (by decide)) (vp_in_nI (show i7 < 40 by omega) (by decide)) (by decide)).trans (congrArg (fun z => 40 * ix s0 + z) (nI_clamp (by omega)))))) dX13_sheet_105 (fun H locs hC => ?_)
              refine lv_iinc (v := nI (i7 + 1)) (lv' := [(4, .int (nI (i7 + 1))), (0, .ref (G.ad 0 0)), (1, .int s0), (2, .int b), (3, .int n)]) hx hb dX13_sheet_106 hl (k := 0) rfl (nI_1 _) (by decide) rfl (fun ls hl => ?_)
              refine lv_goto (tgt := 86) hx hb dX13_sheet_109 (by decide) ?_
              have hC := (congrArg (fun z => fC (mF G) (mct G (mpg d kp as bf sc fd tp it (upd ws (ix s0) b) (upd sz (ix s0) 0) z mv)) s.heap _ _) (p_z0_s nu (40 * ix s0) i7)).mp hC
              exact ih7 (i7 + 1) (by omega) _ _ hC ls (lv_sub hl [0, 1, 2, 3, 4] rfl)
          have hC := (congrArg (fun z => fC (mF G) (mct G (mpg d kp as bf sc fd tp it (upd ws (ix s0) b) (upd sz (ix s0) 0) z mv)) s.heap _ _) (p_z0_0 nu (40 * ix s0))).mp hC
          exact L_7 40 0 (by omega) _ _ hC ls (lv_sub hl [0, 1, 2, 3, 4] rfl)
        · refine lv_aload_n hx hb dX13_sheet_54 rfl (lv_at hl 0 rfl) ?_
          refine lv_ldc (v := (-1000001)) hx hb hown (hts _ q1403) dX13_sheet_55 ?_
          refine fc_V (As := [.int (-1000001)]) (rest := []) hx hb hml hown hts hX hC (m_X13_finding 0 (vin_b rfl)) (lw_V q1404 q1406 qs56 q124 q1407) hdV_X13_finding ⟨rfl, rfl⟩ ⟨Nat.le_of_ble_eq_true rfl, Nat.le_of_ble_eq_true rfl⟩ (fx_recv (g := 0) (i := 0) (ci := 0) (q := (RX13, TX13, 24)) hX hC (min_ (by decide)) rfl rfl) hl.1 rfl (Nat.le_of_ble_eq_true rfl) ⟨Nat.zero_le _, Nat.zero_le _⟩ dX13_sheet_57 (fun _ H locs hC => ?_)
          refine W.eq (g2 := F0 m 60 ls [.int (-1000001)]) rfl ?_
          have hs : s_sheet fd ws sz nu s0 b n = (((-1000001), ws, sz, nu, p_find fd 0) : Int32 × Row × Row × Row × Row) := by grind [s_sheet]
          exact fr_i hx hb hr hlocks hX hC () (congrArg (fun z => some (Value.int z)) (t5_1 hs)) ((((congrArg (fun z => mct G (mpg d kp as bf sc ((s_sheet fd ws sz nu s0 b n).2.2.2.2) tp it z ((s_sheet fd ws sz nu s0 b n).2.2.1) ((s_sheet fd ws sz nu s0 b n).2.2.2.1) mv)) (t5_2 hs)).trans (congrArg (fun z => mct G (mpg d kp as bf sc ((s_sheet fd ws sz nu s0 b n).2.2.2.2) tp it ws z ((s_sheet fd ws sz nu s0 b n).2.2.2.1) mv)) (t5_3 hs))).trans (congrArg (fun z => mct G (mpg d kp as bf sc ((s_sheet fd ws sz nu s0 b n).2.2.2.2) tp it ws sz z mv)) (t5_4 hs))).trans (congrArg (fun z => mct G (mpg d kp as bf sc z tp it ws sz nu mv)) (t5_5 hs))).symm dX13_sheet_60
      · refine lv_aload_n hx hb dX13_sheet_40 rfl (lv_at hl 0 rfl) ?_
        refine lv_ldcw (v := (-1000007)) hx hb hown (hts _ q1834) dX13_sheet_41 ?_
        refine fc_V (As := [.int (-1000007)]) (rest := []) hx hb hml hown hts hX hC (m_X13_finding 6 (vin_b rfl)) (lw_V q1404 q1406 qs56 q124 q1407) hdV_X13_finding ⟨rfl, rfl⟩ ⟨Nat.le_of_ble_eq_true rfl, Nat.le_of_ble_eq_true rfl⟩ (fx_recv (g := 0) (i := 0) (ci := 0) (q := (RX13, TX13, 24)) hX hC (min_ (by decide)) rfl rfl) hl.1 rfl (Nat.le_of_ble_eq_true rfl) ⟨Nat.zero_le _, Nat.zero_le _⟩ dX13_sheet_44 (fun _ H locs hC => ?_)
        refine W.eq (g2 := F0 m 47 ls [.int (-1000007)]) rfl ?_
        have hs : s_sheet fd ws sz nu s0 b n = (((-1000007), ws, sz, nu, p_find fd 6) : Int32 × Row × Row × Row × Row) := by grind [s_sheet]
        exact fr_i hx hb hr hlocks hX hC () (congrArg (fun z => some (Value.int z)) (t5_1 hs)) ((((congrArg (fun z => mct G (mpg d kp as bf sc ((s_sheet fd ws sz nu s0 b n).2.2.2.2) tp it z ((s_sheet fd ws sz nu s0 b n).2.2.1) ((s_sheet fd ws sz nu s0 b n).2.2.2.1) mv)) (t5_2 hs)).trans (congrArg (fun z => mct G (mpg d kp as bf sc ((s_sheet fd ws sz nu s0 b n).2.2.2.2) tp it ws z ((s_sheet fd ws sz nu s0 b n).2.2.2.1) mv)) (t5_3 hs))).trans (congrArg (fun z => mct G (mpg d kp as bf sc ((s_sheet fd ws sz nu s0 b n).2.2.2.2) tp it ws sz z mv)) (t5_4 hs))).trans (congrArg (fun z => mct G (mpg d kp as bf sc z tp it ws sz nu mv)) (t5_5 hs))).symm dX13_sheet_47
    · refine lv_iload_n hx hb dX13_sheet_11 rfl (lv_at hl 2 rfl) ?_
      refine lv_bipush (v := 8) hx hb dX13_sheet_12 rfl ?_
      refine lv_icmp_eq (tgt := 36) hx hb dX13_sheet_14 (by decide) (fun c_10 => ?_) (fun c_10 => ?_)
      · refine lv_iload_n hx hb dX13_sheet_36 rfl (lv_at hl 3 rfl) ?_
        refine fi_ge (tgt := 48) hx hb dX13_sheet_37 (by decide) (fun c_11 => ?_) (fun c_11 => ?_)
        · refine lv_iload_n hx hb dX13_sheet_48 rfl (lv_at hl 3 rfl) ?_
          refine lv_bipush (v := 40) hx hb dX13_sheet_49 rfl ?_
          refine fj_le (tgt := 61) hx hb dX13_sheet_51 (by decide) (fun c_12 => ?_) (fun c_12 => ?_)
          · refine lv_aload_n hx hb dX13_sheet_61 rfl (lv_at hl 0 rfl) ?_
            refine fg_get (C := RX13) (T := TX13) (N := 24) (ci := 0) (g := 0) (i := 0) (v := .ref (G.ad 0 10)) hx hb hown hts hX hC in_X13 rfl (min_ (by decide)) rfl 20 (by decide) q1330 (fun _ h => h) rfl dX13_sheet_62 ?_
            refine lv_iload_n hx hb dX13_sheet_65 rfl (lv_at hl 1 rfl) ?_
            refine lv_iload_n hx hb dX13_sheet_66 rfl (lv_at hl 2 rfl) ?_
            refine fg_iast (g := 0) (i := 10) (t0 := 0) hx hb hX hC (min_ (by decide)) rfl rfl (vin_of c_2 4 (by decide)) (mct G (mpg d kp as bf sc fd tp it (upd ws (ix s0) b) sz nu mv)) (mu mp10 (mst rfl)) dX13_sheet_67 (fun H locs hC => ?_)
            refine lv_aload_n hx hb dX13_sheet_68 rfl (lv_at hl 0 rfl) ?_
            refine fg_get (C := RX13) (T := TX13) (N := 24) (ci := 0) (g := 0) (i := 0) (v := .ref (G.ad 0 11)) hx hb hown hts hX hC in_X13 rfl (min_ (by decide)) rfl 21 (by decide) q1331 (fun _ h => h) rfl dX13_sheet_69 ?_
            refine lv_iload_n hx hb dX13_sheet_72 rfl (lv_at hl 1 rfl) ?_
            refine lv_iload_n hx hb dX13_sheet_73 rfl (lv_at hl 2 rfl) ?_
            refine lv_if_ne (tgt := 81) hx hb dX13_sheet_74 (by decide) (fun _ => ?_) (fun z_13 => absurd z_13 c_3)
            refine lv_iload_n hx hb dX13_sheet_81 rfl (lv_at hl 3 rfl) ?_
            refine fg_iast (g := 0) (i := 11) (t0 := 0) hx hb hX hC (min_ (by decide)) rfl rfl (vin_of c_2 4 (by decide)) (mct G (mpg d kp as bf sc fd tp it (upd ws (ix s0) b) (upd sz (ix s0) n) nu mv)) (mu mp11 (mst rfl)) dX13_sheet_82 (fun H locs hC => ?_)
            refine lv_iconst (v := 0) hx hb dX13_sheet_83 rfl ?_
            refine lv_istore (lv' := [(4, .int 0), (0, .ref (G.ad 0 0)), (1, .int s0), (2, .int b), (3, .int n)]) hx hb dX13_sheet_84 hl (by decide) rfl (fun ls hl => ?_)
            have L_14 : ∀ (k14 i14 : Nat), i14 + k14 = 40 → ∀ (H : Heap) (locs : List Loc), fC (mF G) (mct G (mpg d kp as bf sc fd tp it (upd ws (ix s0) b) (upd sz (ix s0) n) (p_z0 nu (40 * ix s0) i14) mv)) s.heap H locs → ∀ ls : Array Slot, lv_has ls 5 [(4, .int (nI i14)), (0, .ref (G.ad 0 0)), (1, .int s0), (2, .int b), (3, .int n)] → WG p l e ({ frames := 2, cells := 0, slots := 0, locals := 42 }) s m (([.ref (G.ad 0 0), .int s0, .int b, .int n] : List Value).toArray) below meth c H locs (mF G) (fun _ : Unit => some (.int ((s_sheet fd ws sz nu s0 b n).1))) (fun _ => mct G (mpg d kp as bf sc ((s_sheet fd ws sz nu s0 b n).2.2.2.2) tp it ((s_sheet fd ws sz nu s0 b n).2.1) ((s_sheet fd ws sz nu s0 b n).2.2.1) ((s_sheet fd ws sz nu s0 b n).2.2.2.1) mv)) (F0 m 86 ls []) := by
              intro k14
              induction k14 with
              | zero =>
                intro i14 hi14 H locs hC ls hl
                obtain rfl : i14 = 40 := by omega
                refine lv_iload hx hb dX13_sheet_86 (lv_at hl 0 rfl) ?_
                refine lv_bipush (v := 40) hx hb dX13_sheet_88 rfl ?_
                refine fj_ge (tgt := 112) hx hb dX13_sheet_90 (by decide) (fun _ => ?_) (fun z_15 => absurd z_15 (nlt_ix (n := 40)))
                refine lv_aload_n hx hb dX13_sheet_112 rfl (lv_at hl 1 rfl) ?_
                refine fg_get (C := RX13) (T := TX13) (N := 24) (ci := 0) (g := 0) (i := 0) (v := .ref (G.ad 0 11)) hx hb hown hts hX hC in_X13 rfl (min_ (by decide)) rfl 21 (by decide) q1331 (fun _ h => h) rfl dX13_sheet_113 ?_
                refine lv_iload_n hx hb dX13_sheet_116 rfl (lv_at hl 2 rfl) ?_
                refine fg_iald (g := 0) (i := 11) (t0 := 0) (v := n) hx hb hX hC (min_ (by decide)) rfl rfl (vin_of c_2 4 (by decide)) upd_s dX13_sheet_117 ?_
                have hs : s_sheet fd ws sz nu s0 b n = ((n, upd ws (ix s0) b, upd sz (ix s0) n, p_z0 nu (40 * ix s0) 40, fd) : Int32 × Row × Row × Row × Row) := by grind [s_sheet]
                exact fr_i hx hb hr hlocks hX hC () (congrArg (fun z => some (Value.int z)) (t5_1 hs)) ((((congrArg (fun z => mct G (mpg d kp as bf sc ((s_sheet fd ws sz nu s0 b n).2.2.2.2) tp it z ((s_sheet fd ws sz nu s0 b n).2.2.1) ((s_sheet fd ws sz nu s0 b n).2.2.2.1) mv)) (t5_2 hs)).trans (congrArg (fun z => mct G (mpg d kp as bf sc ((s_sheet fd ws sz nu s0 b n).2.2.2.2) tp it (upd ws (ix s0) b) z ((s_sheet fd ws sz nu s0 b n).2.2.2.1) mv)) (t5_3 hs))).trans (congrArg (fun z => mct G (mpg d kp as bf sc ((s_sheet fd ws sz nu s0 b n).2.2.2.2) tp it (upd ws (ix s0) b) (upd sz (ix s0) n) z mv)) (t5_4 hs))).trans (congrArg (fun z => mct G (mpg d kp as bf sc z tp it (upd ws (ix s0) b) (upd sz (ix s0) n) (p_z0 nu (40 * ix s0) 40) mv)) (t5_5 hs))).symm dX13_sheet_118
              | succ k14 ih14 =>
                intro i14 hi14 H locs hC ls hl
                refine lv_iload hx hb dX13_sheet_86 (lv_at hl 0 rfl) ?_
                refine lv_bipush (v := 40) hx hb dX13_sheet_88 rfl ?_
                refine fj_ge (tgt := 112) hx hb dX13_sheet_90 (by decide) (fun z_16 => absurd (lt_ix (n := 40) (show i14 < 40 by omega)) z_16) (fun _ => ?_)
                refine lv_aload_n hx hb dX13_sheet_93 rfl (lv_at hl 1 rfl) ?_
                refine fg_get (C := RX13) (T := TX13) (N := 24) (ci := 0) (g := 0) (i := 0) (v := .ref (G.ad 0 12)) hx hb hown hts hX hC in_X13 rfl (min_ (by decide)) rfl 22 (by decide) q1332 (fun _ h => h) rfl dX13_sheet_94 ?_
                refine lv_bipush (v := 40) hx hb dX13_sheet_97 rfl ?_
                refine lv_iload_n hx hb dX13_sheet_99 rfl (lv_at hl 2 rfl) ?_
                refine lv_imul hx hb dX13_sheet_100 ?_
                refine lv_iload hx hb dX13_sheet_101 (lv_at hl 0 rfl) ?_
                refine lv_iadd hx hb dX13_sheet_103 ?_
                refine lv_iconst (v := 0) hx hb dX13_sheet_104 rfl ?_
                refine fg_iast (g := 0) (i := 12) (t0 := 0) hx hb hX hC (min_ (by decide)) rfl rfl (vins (vin_of c_2 4 (by decide)) (vp_in_nI (show i14 < 40 by omega) (by decide)) (by decide)) (mct G (mpg d kp as bf sc fd tp it (upd ws (ix s0) b) (upd sz (ix s0) n) (upd (p_z0 nu (40 * ix s0) i14) (40 * ix s0 + i14) 0) mv)) (mu mp12 (mst ((ixs (vin_of c_2 4 (by decide)) (vp_in_nI (show i14 < 40 by omega) (by decide)) (by decide)).trans (congrArg (fun z => 40 * ix s0 + z) (nI_clamp (by omega)))))) dX13_sheet_105 (fun H locs hC => ?_)
                refine lv_iinc (v := nI (i14 + 1)) (lv' := [(4, .int (nI (i14 + 1))), (0, .ref (G.ad 0 0)), (1, .int s0), (2, .int b), (3, .int n)]) hx hb dX13_sheet_106 hl (k := 0) rfl (nI_1 _) (by decide) rfl (fun ls hl => ?_)
                refine lv_goto (tgt := 86) hx hb dX13_sheet_109 (by decide) ?_
                have hC := (congrArg (fun z => fC (mF G) (mct G (mpg d kp as bf sc fd tp it (upd ws (ix s0) b) (upd sz (ix s0) n) z mv)) s.heap _ _) (p_z0_s nu (40 * ix s0) i14)).mp hC
                exact ih14 (i14 + 1) (by omega) _ _ hC ls (lv_sub hl [0, 1, 2, 3, 4] rfl)
            have hC := (congrArg (fun z => fC (mF G) (mct G (mpg d kp as bf sc fd tp it (upd ws (ix s0) b) (upd sz (ix s0) n) z mv)) s.heap _ _) (p_z0_0 nu (40 * ix s0))).mp hC
            exact L_14 40 0 (by omega) _ _ hC ls (lv_sub hl [0, 1, 2, 3, 4] rfl)
          · refine lv_aload_n hx hb dX13_sheet_54 rfl (lv_at hl 0 rfl) ?_
            refine lv_ldc (v := (-1000001)) hx hb hown (hts _ q1403) dX13_sheet_55 ?_
            refine fc_V (As := [.int (-1000001)]) (rest := []) hx hb hml hown hts hX hC (m_X13_finding 0 (vin_b rfl)) (lw_V q1404 q1406 qs56 q124 q1407) hdV_X13_finding ⟨rfl, rfl⟩ ⟨Nat.le_of_ble_eq_true rfl, Nat.le_of_ble_eq_true rfl⟩ (fx_recv (g := 0) (i := 0) (ci := 0) (q := (RX13, TX13, 24)) hX hC (min_ (by decide)) rfl rfl) hl.1 rfl (Nat.le_of_ble_eq_true rfl) ⟨Nat.zero_le _, Nat.zero_le _⟩ dX13_sheet_57 (fun _ H locs hC => ?_)
            refine W.eq (g2 := F0 m 60 ls [.int (-1000001)]) rfl ?_
            have hs : s_sheet fd ws sz nu s0 b n = (((-1000001), ws, sz, nu, p_find fd 0) : Int32 × Row × Row × Row × Row) := by grind [s_sheet]
            exact fr_i hx hb hr hlocks hX hC () (congrArg (fun z => some (Value.int z)) (t5_1 hs)) ((((congrArg (fun z => mct G (mpg d kp as bf sc ((s_sheet fd ws sz nu s0 b n).2.2.2.2) tp it z ((s_sheet fd ws sz nu s0 b n).2.2.1) ((s_sheet fd ws sz nu s0 b n).2.2.2.1) mv)) (t5_2 hs)).trans (congrArg (fun z => mct G (mpg d kp as bf sc ((s_sheet fd ws sz nu s0 b n).2.2.2.2) tp it ws z ((s_sheet fd ws sz nu s0 b n).2.2.2.1) mv)) (t5_3 hs))).trans (congrArg (fun z => mct G (mpg d kp as bf sc ((s_sheet fd ws sz nu s0 b n).2.2.2.2) tp it ws sz z mv)) (t5_4 hs))).trans (congrArg (fun z => mct G (mpg d kp as bf sc z tp it ws sz nu mv)) (t5_5 hs))).symm dX13_sheet_60
        · refine lv_aload_n hx hb dX13_sheet_40 rfl (lv_at hl 0 rfl) ?_
          refine lv_ldcw (v := (-1000007)) hx hb hown (hts _ q1834) dX13_sheet_41 ?_
          refine fc_V (As := [.int (-1000007)]) (rest := []) hx hb hml hown hts hX hC (m_X13_finding 6 (vin_b rfl)) (lw_V q1404 q1406 qs56 q124 q1407) hdV_X13_finding ⟨rfl, rfl⟩ ⟨Nat.le_of_ble_eq_true rfl, Nat.le_of_ble_eq_true rfl⟩ (fx_recv (g := 0) (i := 0) (ci := 0) (q := (RX13, TX13, 24)) hX hC (min_ (by decide)) rfl rfl) hl.1 rfl (Nat.le_of_ble_eq_true rfl) ⟨Nat.zero_le _, Nat.zero_le _⟩ dX13_sheet_44 (fun _ H locs hC => ?_)
          refine W.eq (g2 := F0 m 47 ls [.int (-1000007)]) rfl ?_
          have hs : s_sheet fd ws sz nu s0 b n = (((-1000007), ws, sz, nu, p_find fd 6) : Int32 × Row × Row × Row × Row) := by grind [s_sheet]
          exact fr_i hx hb hr hlocks hX hC () (congrArg (fun z => some (Value.int z)) (t5_1 hs)) ((((congrArg (fun z => mct G (mpg d kp as bf sc ((s_sheet fd ws sz nu s0 b n).2.2.2.2) tp it z ((s_sheet fd ws sz nu s0 b n).2.2.1) ((s_sheet fd ws sz nu s0 b n).2.2.2.1) mv)) (t5_2 hs)).trans (congrArg (fun z => mct G (mpg d kp as bf sc ((s_sheet fd ws sz nu s0 b n).2.2.2.2) tp it ws z ((s_sheet fd ws sz nu s0 b n).2.2.2.1) mv)) (t5_3 hs))).trans (congrArg (fun z => mct G (mpg d kp as bf sc ((s_sheet fd ws sz nu s0 b n).2.2.2.2) tp it ws sz z mv)) (t5_4 hs))).trans (congrArg (fun z => mct G (mpg d kp as bf sc z tp it ws sz nu mv)) (t5_5 hs))).symm dX13_sheet_47
      · refine lv_iload_n hx hb dX13_sheet_17 rfl (lv_at hl 2 rfl) ?_
        refine lv_bipush (v := 16) hx hb dX13_sheet_18 rfl ?_
        refine lv_icmp_eq (tgt := 36) hx hb dX13_sheet_20 (by decide) (fun c_17 => ?_) (fun c_17 => ?_)
        · refine lv_iload_n hx hb dX13_sheet_36 rfl (lv_at hl 3 rfl) ?_
          refine fi_ge (tgt := 48) hx hb dX13_sheet_37 (by decide) (fun c_18 => ?_) (fun c_18 => ?_)
          · refine lv_iload_n hx hb dX13_sheet_48 rfl (lv_at hl 3 rfl) ?_
            refine lv_bipush (v := 40) hx hb dX13_sheet_49 rfl ?_
            refine fj_le (tgt := 61) hx hb dX13_sheet_51 (by decide) (fun c_19 => ?_) (fun c_19 => ?_)
            · refine lv_aload_n hx hb dX13_sheet_61 rfl (lv_at hl 0 rfl) ?_
              refine fg_get (C := RX13) (T := TX13) (N := 24) (ci := 0) (g := 0) (i := 0) (v := .ref (G.ad 0 10)) hx hb hown hts hX hC in_X13 rfl (min_ (by decide)) rfl 20 (by decide) q1330 (fun _ h => h) rfl dX13_sheet_62 ?_
              refine lv_iload_n hx hb dX13_sheet_65 rfl (lv_at hl 1 rfl) ?_
              refine lv_iload_n hx hb dX13_sheet_66 rfl (lv_at hl 2 rfl) ?_
              refine fg_iast (g := 0) (i := 10) (t0 := 0) hx hb hX hC (min_ (by decide)) rfl rfl (vin_of c_2 4 (by decide)) (mct G (mpg d kp as bf sc fd tp it (upd ws (ix s0) b) sz nu mv)) (mu mp10 (mst rfl)) dX13_sheet_67 (fun H locs hC => ?_)
              refine lv_aload_n hx hb dX13_sheet_68 rfl (lv_at hl 0 rfl) ?_
              refine fg_get (C := RX13) (T := TX13) (N := 24) (ci := 0) (g := 0) (i := 0) (v := .ref (G.ad 0 11)) hx hb hown hts hX hC in_X13 rfl (min_ (by decide)) rfl 21 (by decide) q1331 (fun _ h => h) rfl dX13_sheet_69 ?_
              refine lv_iload_n hx hb dX13_sheet_72 rfl (lv_at hl 1 rfl) ?_
              refine lv_iload_n hx hb dX13_sheet_73 rfl (lv_at hl 2 rfl) ?_
              refine lv_if_ne (tgt := 81) hx hb dX13_sheet_74 (by decide) (fun _ => ?_) (fun z_20 => absurd z_20 c_3)
              refine lv_iload_n hx hb dX13_sheet_81 rfl (lv_at hl 3 rfl) ?_
              refine fg_iast (g := 0) (i := 11) (t0 := 0) hx hb hX hC (min_ (by decide)) rfl rfl (vin_of c_2 4 (by decide)) (mct G (mpg d kp as bf sc fd tp it (upd ws (ix s0) b) (upd sz (ix s0) n) nu mv)) (mu mp11 (mst rfl)) dX13_sheet_82 (fun H locs hC => ?_)
              refine lv_iconst (v := 0) hx hb dX13_sheet_83 rfl ?_
              refine lv_istore (lv' := [(4, .int 0), (0, .ref (G.ad 0 0)), (1, .int s0), (2, .int b), (3, .int n)]) hx hb dX13_sheet_84 hl (by decide) rfl (fun ls hl => ?_)
              have L_21 : ∀ (k21 i21 : Nat), i21 + k21 = 40 → ∀ (H : Heap) (locs : List Loc), fC (mF G) (mct G (mpg d kp as bf sc fd tp it (upd ws (ix s0) b) (upd sz (ix s0) n) (p_z0 nu (40 * ix s0) i21) mv)) s.heap H locs → ∀ ls : Array Slot, lv_has ls 5 [(4, .int (nI i21)), (0, .ref (G.ad 0 0)), (1, .int s0), (2, .int b), (3, .int n)] → WG p l e ({ frames := 2, cells := 0, slots := 0, locals := 42 }) s m (([.ref (G.ad 0 0), .int s0, .int b, .int n] : List Value).toArray) below meth c H locs (mF G) (fun _ : Unit => some (.int ((s_sheet fd ws sz nu s0 b n).1))) (fun _ => mct G (mpg d kp as bf sc ((s_sheet fd ws sz nu s0 b n).2.2.2.2) tp it ((s_sheet fd ws sz nu s0 b n).2.1) ((s_sheet fd ws sz nu s0 b n).2.2.1) ((s_sheet fd ws sz nu s0 b n).2.2.2.1) mv)) (F0 m 86 ls []) := by
                intro k21
                induction k21 with
                | zero =>
                  intro i21 hi21 H locs hC ls hl
                  obtain rfl : i21 = 40 := by omega
                  refine lv_iload hx hb dX13_sheet_86 (lv_at hl 0 rfl) ?_
                  refine lv_bipush (v := 40) hx hb dX13_sheet_88 rfl ?_
                  refine fj_ge (tgt := 112) hx hb dX13_sheet_90 (by decide) (fun _ => ?_) (fun z_22 => absurd z_22 (nlt_ix (n := 40)))
                  refine lv_aload_n hx hb dX13_sheet_112 rfl (lv_at hl 1 rfl) ?_
                  refine fg_get (C := RX13) (T := TX13) (N := 24) (ci := 0) (g := 0) (i := 0) (v := .ref (G.ad 0 11)) hx hb hown hts hX hC in_X13 rfl (min_ (by decide)) rfl 21 (by decide) q1331 (fun _ h => h) rfl dX13_sheet_113 ?_
                  refine lv_iload_n hx hb dX13_sheet_116 rfl (lv_at hl 2 rfl) ?_
                  refine fg_iald (g := 0) (i := 11) (t0 := 0) (v := n) hx hb hX hC (min_ (by decide)) rfl rfl (vin_of c_2 4 (by decide)) upd_s dX13_sheet_117 ?_
                  have hs : s_sheet fd ws sz nu s0 b n = ((n, upd ws (ix s0) b, upd sz (ix s0) n, p_z0 nu (40 * ix s0) 40, fd) : Int32 × Row × Row × Row × Row) := by grind [s_sheet]
                  exact fr_i hx hb hr hlocks hX hC () (congrArg (fun z => some (Value.int z)) (t5_1 hs)) ((((congrArg (fun z => mct G (mpg d kp as bf sc ((s_sheet fd ws sz nu s0 b n).2.2.2.2) tp it z ((s_sheet fd ws sz nu s0 b n).2.2.1) ((s_sheet fd ws sz nu s0 b n).2.2.2.1) mv)) (t5_2 hs)).trans (congrArg (fun z => mct G (mpg d kp as bf sc ((s_sheet fd ws sz nu s0 b n).2.2.2.2) tp it (upd ws (ix s0) b) z ((s_sheet fd ws sz nu s0 b n).2.2.2.1) mv)) (t5_3 hs))).trans (congrArg (fun z => mct G (mpg d kp as bf sc ((s_sheet fd ws sz nu s0 b n).2.2.2.2) tp it (upd ws (ix s0) b) (upd sz (ix s0) n) z mv)) (t5_4 hs))).trans (congrArg (fun z => mct G (mpg d kp as bf sc z tp it (upd ws (ix s0) b) (upd sz (ix s0) n) (p_z0 nu (40 * ix s0) 40) mv)) (t5_5 hs))).symm dX13_sheet_118
                | succ k21 ih21 =>
                  intro i21 hi21 H locs hC ls hl
                  refine lv_iload hx hb dX13_sheet_86 (lv_at hl 0 rfl) ?_
                  refine lv_bipush (v := 40) hx hb dX13_sheet_88 rfl ?_
                  refine fj_ge (tgt := 112) hx hb dX13_sheet_90 (by decide) (fun z_23 => absurd (lt_ix (n := 40) (show i21 < 40 by omega)) z_23) (fun _ => ?_)
                  refine lv_aload_n hx hb dX13_sheet_93 rfl (lv_at hl 1 rfl) ?_
                  refine fg_get (C := RX13) (T := TX13) (N := 24) (ci := 0) (g := 0) (i := 0) (v := .ref (G.ad 0 12)) hx hb hown hts hX hC in_X13 rfl (min_ (by decide)) rfl 22 (by decide) q1332 (fun _ h => h) rfl dX13_sheet_94 ?_
                  refine lv_bipush (v := 40) hx hb dX13_sheet_97 rfl ?_
                  refine lv_iload_n hx hb dX13_sheet_99 rfl (lv_at hl 2 rfl) ?_
                  refine lv_imul hx hb dX13_sheet_100 ?_
                  refine lv_iload hx hb dX13_sheet_101 (lv_at hl 0 rfl) ?_
                  refine lv_iadd hx hb dX13_sheet_103 ?_
                  refine lv_iconst (v := 0) hx hb dX13_sheet_104 rfl ?_
                  refine fg_iast (g := 0) (i := 12) (t0 := 0) hx hb hX hC (min_ (by decide)) rfl rfl (vins (vin_of c_2 4 (by decide)) (vp_in_nI (show i21 < 40 by omega) (by decide)) (by decide)) (mct G (mpg d kp as bf sc fd tp it (upd ws (ix s0) b) (upd sz (ix s0) n) (upd (p_z0 nu (40 * ix s0) i21) (40 * ix s0 + i21) 0) mv)) (mu mp12 (mst ((ixs (vin_of c_2 4 (by decide)) (vp_in_nI (show i21 < 40 by omega) (by decide)) (by decide)).trans (congrArg (fun z => 40 * ix s0 + z) (nI_clamp (by omega)))))) dX13_sheet_105 (fun H locs hC => ?_)
                  refine lv_iinc (v := nI (i21 + 1)) (lv' := [(4, .int (nI (i21 + 1))), (0, .ref (G.ad 0 0)), (1, .int s0), (2, .int b), (3, .int n)]) hx hb dX13_sheet_106 hl (k := 0) rfl (nI_1 _) (by decide) rfl (fun ls hl => ?_)
                  refine lv_goto (tgt := 86) hx hb dX13_sheet_109 (by decide) ?_
                  have hC := (congrArg (fun z => fC (mF G) (mct G (mpg d kp as bf sc fd tp it (upd ws (ix s0) b) (upd sz (ix s0) n) z mv)) s.heap _ _) (p_z0_s nu (40 * ix s0) i21)).mp hC
                  exact ih21 (i21 + 1) (by omega) _ _ hC ls (lv_sub hl [0, 1, 2, 3, 4] rfl)
              have hC := (congrArg (fun z => fC (mF G) (mct G (mpg d kp as bf sc fd tp it (upd ws (ix s0) b) (upd sz (ix s0) n) z mv)) s.heap _ _) (p_z0_0 nu (40 * ix s0))).mp hC
              exact L_21 40 0 (by omega) _ _ hC ls (lv_sub hl [0, 1, 2, 3, 4] rfl)
            · refine lv_aload_n hx hb dX13_sheet_54 rfl (lv_at hl 0 rfl) ?_
              refine lv_ldc (v := (-1000001)) hx hb hown (hts _ q1403) dX13_sheet_55 ?_
              refine fc_V (As := [.int (-1000001)]) (rest := []) hx hb hml hown hts hX hC (m_X13_finding 0 (vin_b rfl)) (lw_V q1404 q1406 qs56 q124 q1407) hdV_X13_finding ⟨rfl, rfl⟩ ⟨Nat.le_of_ble_eq_true rfl, Nat.le_of_ble_eq_true rfl⟩ (fx_recv (g := 0) (i := 0) (ci := 0) (q := (RX13, TX13, 24)) hX hC (min_ (by decide)) rfl rfl) hl.1 rfl (Nat.le_of_ble_eq_true rfl) ⟨Nat.zero_le _, Nat.zero_le _⟩ dX13_sheet_57 (fun _ H locs hC => ?_)
              refine W.eq (g2 := F0 m 60 ls [.int (-1000001)]) rfl ?_
              have hs : s_sheet fd ws sz nu s0 b n = (((-1000001), ws, sz, nu, p_find fd 0) : Int32 × Row × Row × Row × Row) := by grind [s_sheet]
              exact fr_i hx hb hr hlocks hX hC () (congrArg (fun z => some (Value.int z)) (t5_1 hs)) ((((congrArg (fun z => mct G (mpg d kp as bf sc ((s_sheet fd ws sz nu s0 b n).2.2.2.2) tp it z ((s_sheet fd ws sz nu s0 b n).2.2.1) ((s_sheet fd ws sz nu s0 b n).2.2.2.1) mv)) (t5_2 hs)).trans (congrArg (fun z => mct G (mpg d kp as bf sc ((s_sheet fd ws sz nu s0 b n).2.2.2.2) tp it ws z ((s_sheet fd ws sz nu s0 b n).2.2.2.1) mv)) (t5_3 hs))).trans (congrArg (fun z => mct G (mpg d kp as bf sc ((s_sheet fd ws sz nu s0 b n).2.2.2.2) tp it ws sz z mv)) (t5_4 hs))).trans (congrArg (fun z => mct G (mpg d kp as bf sc z tp it ws sz nu mv)) (t5_5 hs))).symm dX13_sheet_60
          · refine lv_aload_n hx hb dX13_sheet_40 rfl (lv_at hl 0 rfl) ?_
            refine lv_ldcw (v := (-1000007)) hx hb hown (hts _ q1834) dX13_sheet_41 ?_
            refine fc_V (As := [.int (-1000007)]) (rest := []) hx hb hml hown hts hX hC (m_X13_finding 6 (vin_b rfl)) (lw_V q1404 q1406 qs56 q124 q1407) hdV_X13_finding ⟨rfl, rfl⟩ ⟨Nat.le_of_ble_eq_true rfl, Nat.le_of_ble_eq_true rfl⟩ (fx_recv (g := 0) (i := 0) (ci := 0) (q := (RX13, TX13, 24)) hX hC (min_ (by decide)) rfl rfl) hl.1 rfl (Nat.le_of_ble_eq_true rfl) ⟨Nat.zero_le _, Nat.zero_le _⟩ dX13_sheet_44 (fun _ H locs hC => ?_)
            refine W.eq (g2 := F0 m 47 ls [.int (-1000007)]) rfl ?_
            have hs : s_sheet fd ws sz nu s0 b n = (((-1000007), ws, sz, nu, p_find fd 6) : Int32 × Row × Row × Row × Row) := by grind [s_sheet]
            exact fr_i hx hb hr hlocks hX hC () (congrArg (fun z => some (Value.int z)) (t5_1 hs)) ((((congrArg (fun z => mct G (mpg d kp as bf sc ((s_sheet fd ws sz nu s0 b n).2.2.2.2) tp it z ((s_sheet fd ws sz nu s0 b n).2.2.1) ((s_sheet fd ws sz nu s0 b n).2.2.2.1) mv)) (t5_2 hs)).trans (congrArg (fun z => mct G (mpg d kp as bf sc ((s_sheet fd ws sz nu s0 b n).2.2.2.2) tp it ws z ((s_sheet fd ws sz nu s0 b n).2.2.2.1) mv)) (t5_3 hs))).trans (congrArg (fun z => mct G (mpg d kp as bf sc ((s_sheet fd ws sz nu s0 b n).2.2.2.2) tp it ws sz z mv)) (t5_4 hs))).trans (congrArg (fun z => mct G (mpg d kp as bf sc z tp it ws sz nu mv)) (t5_5 hs))).symm dX13_sheet_47
        · refine lv_iload_n hx hb dX13_sheet_23 rfl (lv_at hl 2 rfl) ?_
          refine lv_bipush (v := 32) hx hb dX13_sheet_24 rfl ?_
          refine lv_icmp_eq (tgt := 36) hx hb dX13_sheet_26 (by decide) (fun c_24 => ?_) (fun c_24 => ?_)
          · refine lv_iload_n hx hb dX13_sheet_36 rfl (lv_at hl 3 rfl) ?_
            refine fi_ge (tgt := 48) hx hb dX13_sheet_37 (by decide) (fun c_25 => ?_) (fun c_25 => ?_)
            · refine lv_iload_n hx hb dX13_sheet_48 rfl (lv_at hl 3 rfl) ?_
              refine lv_bipush (v := 40) hx hb dX13_sheet_49 rfl ?_
              refine fj_le (tgt := 61) hx hb dX13_sheet_51 (by decide) (fun c_26 => ?_) (fun c_26 => ?_)
              · refine lv_aload_n hx hb dX13_sheet_61 rfl (lv_at hl 0 rfl) ?_
                refine fg_get (C := RX13) (T := TX13) (N := 24) (ci := 0) (g := 0) (i := 0) (v := .ref (G.ad 0 10)) hx hb hown hts hX hC in_X13 rfl (min_ (by decide)) rfl 20 (by decide) q1330 (fun _ h => h) rfl dX13_sheet_62 ?_
                refine lv_iload_n hx hb dX13_sheet_65 rfl (lv_at hl 1 rfl) ?_
                refine lv_iload_n hx hb dX13_sheet_66 rfl (lv_at hl 2 rfl) ?_
                refine fg_iast (g := 0) (i := 10) (t0 := 0) hx hb hX hC (min_ (by decide)) rfl rfl (vin_of c_2 4 (by decide)) (mct G (mpg d kp as bf sc fd tp it (upd ws (ix s0) b) sz nu mv)) (mu mp10 (mst rfl)) dX13_sheet_67 (fun H locs hC => ?_)
                refine lv_aload_n hx hb dX13_sheet_68 rfl (lv_at hl 0 rfl) ?_
                refine fg_get (C := RX13) (T := TX13) (N := 24) (ci := 0) (g := 0) (i := 0) (v := .ref (G.ad 0 11)) hx hb hown hts hX hC in_X13 rfl (min_ (by decide)) rfl 21 (by decide) q1331 (fun _ h => h) rfl dX13_sheet_69 ?_
                refine lv_iload_n hx hb dX13_sheet_72 rfl (lv_at hl 1 rfl) ?_
                refine lv_iload_n hx hb dX13_sheet_73 rfl (lv_at hl 2 rfl) ?_
                refine lv_if_ne (tgt := 81) hx hb dX13_sheet_74 (by decide) (fun _ => ?_) (fun z_27 => absurd z_27 c_3)
                refine lv_iload_n hx hb dX13_sheet_81 rfl (lv_at hl 3 rfl) ?_
                refine fg_iast (g := 0) (i := 11) (t0 := 0) hx hb hX hC (min_ (by decide)) rfl rfl (vin_of c_2 4 (by decide)) (mct G (mpg d kp as bf sc fd tp it (upd ws (ix s0) b) (upd sz (ix s0) n) nu mv)) (mu mp11 (mst rfl)) dX13_sheet_82 (fun H locs hC => ?_)
                refine lv_iconst (v := 0) hx hb dX13_sheet_83 rfl ?_
                refine lv_istore (lv' := [(4, .int 0), (0, .ref (G.ad 0 0)), (1, .int s0), (2, .int b), (3, .int n)]) hx hb dX13_sheet_84 hl (by decide) rfl (fun ls hl => ?_)
                have L_28 : ∀ (k28 i28 : Nat), i28 + k28 = 40 → ∀ (H : Heap) (locs : List Loc), fC (mF G) (mct G (mpg d kp as bf sc fd tp it (upd ws (ix s0) b) (upd sz (ix s0) n) (p_z0 nu (40 * ix s0) i28) mv)) s.heap H locs → ∀ ls : Array Slot, lv_has ls 5 [(4, .int (nI i28)), (0, .ref (G.ad 0 0)), (1, .int s0), (2, .int b), (3, .int n)] → WG p l e ({ frames := 2, cells := 0, slots := 0, locals := 42 }) s m (([.ref (G.ad 0 0), .int s0, .int b, .int n] : List Value).toArray) below meth c H locs (mF G) (fun _ : Unit => some (.int ((s_sheet fd ws sz nu s0 b n).1))) (fun _ => mct G (mpg d kp as bf sc ((s_sheet fd ws sz nu s0 b n).2.2.2.2) tp it ((s_sheet fd ws sz nu s0 b n).2.1) ((s_sheet fd ws sz nu s0 b n).2.2.1) ((s_sheet fd ws sz nu s0 b n).2.2.2.1) mv)) (F0 m 86 ls []) := by
                  intro k28
                  induction k28 with
                  | zero =>
                    intro i28 hi28 H locs hC ls hl
                    obtain rfl : i28 = 40 := by omega
                    refine lv_iload hx hb dX13_sheet_86 (lv_at hl 0 rfl) ?_
                    refine lv_bipush (v := 40) hx hb dX13_sheet_88 rfl ?_
                    refine fj_ge (tgt := 112) hx hb dX13_sheet_90 (by decide) (fun _ => ?_) (fun z_29 => absurd z_29 (nlt_ix (n := 40)))
                    refine lv_aload_n hx hb dX13_sheet_112 rfl (lv_at hl 1 rfl) ?_
                    refine fg_get (C := RX13) (T := TX13) (N := 24) (ci := 0) (g := 0) (i := 0) (v := .ref (G.ad 0 11)) hx hb hown hts hX hC in_X13 rfl (min_ (by decide)) rfl 21 (by decide) q1331 (fun _ h => h) rfl dX13_sheet_113 ?_
                    refine lv_iload_n hx hb dX13_sheet_116 rfl (lv_at hl 2 rfl) ?_
                    refine fg_iald (g := 0) (i := 11) (t0 := 0) (v := n) hx hb hX hC (min_ (by decide)) rfl rfl (vin_of c_2 4 (by decide)) upd_s dX13_sheet_117 ?_
                    have hs : s_sheet fd ws sz nu s0 b n = ((n, upd ws (ix s0) b, upd sz (ix s0) n, p_z0 nu (40 * ix s0) 40, fd) : Int32 × Row × Row × Row × Row) := by grind [s_sheet]
                    exact fr_i hx hb hr hlocks hX hC () (congrArg (fun z => some (Value.int z)) (t5_1 hs)) ((((congrArg (fun z => mct G (mpg d kp as bf sc ((s_sheet fd ws sz nu s0 b n).2.2.2.2) tp it z ((s_sheet fd ws sz nu s0 b n).2.2.1) ((s_sheet fd ws sz nu s0 b n).2.2.2.1) mv)) (t5_2 hs)).trans (congrArg (fun z => mct G (mpg d kp as bf sc ((s_sheet fd ws sz nu s0 b n).2.2.2.2) tp it (upd ws (ix s0) b) z ((s_sheet fd ws sz nu s0 b n).2.2.2.1) mv)) (t5_3 hs))).trans (congrArg (fun z => mct G (mpg d kp as bf sc ((s_sheet fd ws sz nu s0 b n).2.2.2.2) tp it (upd ws (ix s0) b) (upd sz (ix s0) n) z mv)) (t5_4 hs))).trans (congrArg (fun z => mct G (mpg d kp as bf sc z tp it (upd ws (ix s0) b) (upd sz (ix s0) n) (p_z0 nu (40 * ix s0) 40) mv)) (t5_5 hs))).symm dX13_sheet_118
                  | succ k28 ih28 =>
                    intro i28 hi28 H locs hC ls hl
                    refine lv_iload hx hb dX13_sheet_86 (lv_at hl 0 rfl) ?_
                    refine lv_bipush (v := 40) hx hb dX13_sheet_88 rfl ?_
                    refine fj_ge (tgt := 112) hx hb dX13_sheet_90 (by decide) (fun z_30 => absurd (lt_ix (n := 40) (show i28 < 40 by omega)) z_30) (fun _ => ?_)
                    refine lv_aload_n hx hb dX13_sheet_93 rfl (lv_at hl 1 rfl) ?_
                    refine fg_get (C := RX13) (T := TX13) (N := 24) (ci := 0) (g := 0) (i := 0) (v := .ref (G.ad 0 12)) hx hb hown hts hX hC in_X13 rfl (min_ (by decide)) rfl 22 (by decide) q1332 (fun _ h => h) rfl dX13_sheet_94 ?_
                    refine lv_bipush (v := 40) hx hb dX13_sheet_97 rfl ?_
                    refine lv_iload_n hx hb dX13_sheet_99 rfl (lv_at hl 2 rfl) ?_
                    refine lv_imul hx hb dX13_sheet_100 ?_
                    refine lv_iload hx hb dX13_sheet_101 (lv_at hl 0 rfl) ?_
                    refine lv_iadd hx hb dX13_sheet_103 ?_
                    refine lv_iconst (v := 0) hx hb dX13_sheet_104 rfl ?_
                    refine fg_iast (g := 0) (i := 12) (t0 := 0) hx hb hX hC (min_ (by decide)) rfl rfl (vins (vin_of c_2 4 (by decide)) (vp_in_nI (show i28 < 40 by omega) (by decide)) (by decide)) (mct G (mpg d kp as bf sc fd tp it (upd ws (ix s0) b) (upd sz (ix s0) n) (upd (p_z0 nu (40 * ix s0) i28) (40 * ix s0 + i28) 0) mv)) (mu mp12 (mst ((ixs (vin_of c_2 4 (by decide)) (vp_in_nI (show i28 < 40 by omega) (by decide)) (by decide)).trans (congrArg (fun z => 40 * ix s0 + z) (nI_clamp (by omega)))))) dX13_sheet_105 (fun H locs hC => ?_)
                    refine lv_iinc (v := nI (i28 + 1)) (lv' := [(4, .int (nI (i28 + 1))), (0, .ref (G.ad 0 0)), (1, .int s0), (2, .int b), (3, .int n)]) hx hb dX13_sheet_106 hl (k := 0) rfl (nI_1 _) (by decide) rfl (fun ls hl => ?_)
                    refine lv_goto (tgt := 86) hx hb dX13_sheet_109 (by decide) ?_
                    have hC := (congrArg (fun z => fC (mF G) (mct G (mpg d kp as bf sc fd tp it (upd ws (ix s0) b) (upd sz (ix s0) n) z mv)) s.heap _ _) (p_z0_s nu (40 * ix s0) i28)).mp hC
                    exact ih28 (i28 + 1) (by omega) _ _ hC ls (lv_sub hl [0, 1, 2, 3, 4] rfl)
                have hC := (congrArg (fun z => fC (mF G) (mct G (mpg d kp as bf sc fd tp it (upd ws (ix s0) b) (upd sz (ix s0) n) z mv)) s.heap _ _) (p_z0_0 nu (40 * ix s0))).mp hC
                exact L_28 40 0 (by omega) _ _ hC ls (lv_sub hl [0, 1, 2, 3, 4] rfl)
              · refine lv_aload_n hx hb dX13_sheet_54 rfl (lv_at hl 0 rfl) ?_
                refine lv_ldc (v := (-1000001)) hx hb hown (hts _ q1403) dX13_sheet_55 ?_
                refine fc_V (As := [.int (-1000001)]) (rest := []) hx hb hml hown hts hX hC (m_X13_finding 0 (vin_b rfl)) (lw_V q1404 q1406 qs56 q124 q1407) hdV_X13_finding ⟨rfl, rfl⟩ ⟨Nat.le_of_ble_eq_true rfl, Nat.le_of_ble_eq_true rfl⟩ (fx_recv (g := 0) (i := 0) (ci := 0) (q := (RX13, TX13, 24)) hX hC (min_ (by decide)) rfl rfl) hl.1 rfl (Nat.le_of_ble_eq_true rfl) ⟨Nat.zero_le _, Nat.zero_le _⟩ dX13_sheet_57 (fun _ H locs hC => ?_)
                refine W.eq (g2 := F0 m 60 ls [.int (-1000001)]) rfl ?_
                have hs : s_sheet fd ws sz nu s0 b n = (((-1000001), ws, sz, nu, p_find fd 0) : Int32 × Row × Row × Row × Row) := by grind [s_sheet]
                exact fr_i hx hb hr hlocks hX hC () (congrArg (fun z => some (Value.int z)) (t5_1 hs)) ((((congrArg (fun z => mct G (mpg d kp as bf sc ((s_sheet fd ws sz nu s0 b n).2.2.2.2) tp it z ((s_sheet fd ws sz nu s0 b n).2.2.1) ((s_sheet fd ws sz nu s0 b n).2.2.2.1) mv)) (t5_2 hs)).trans (congrArg (fun z => mct G (mpg d kp as bf sc ((s_sheet fd ws sz nu s0 b n).2.2.2.2) tp it ws z ((s_sheet fd ws sz nu s0 b n).2.2.2.1) mv)) (t5_3 hs))).trans (congrArg (fun z => mct G (mpg d kp as bf sc ((s_sheet fd ws sz nu s0 b n).2.2.2.2) tp it ws sz z mv)) (t5_4 hs))).trans (congrArg (fun z => mct G (mpg d kp as bf sc z tp it ws sz nu mv)) (t5_5 hs))).symm dX13_sheet_60
            · refine lv_aload_n hx hb dX13_sheet_40 rfl (lv_at hl 0 rfl) ?_
              refine lv_ldcw (v := (-1000007)) hx hb hown (hts _ q1834) dX13_sheet_41 ?_
              refine fc_V (As := [.int (-1000007)]) (rest := []) hx hb hml hown hts hX hC (m_X13_finding 6 (vin_b rfl)) (lw_V q1404 q1406 qs56 q124 q1407) hdV_X13_finding ⟨rfl, rfl⟩ ⟨Nat.le_of_ble_eq_true rfl, Nat.le_of_ble_eq_true rfl⟩ (fx_recv (g := 0) (i := 0) (ci := 0) (q := (RX13, TX13, 24)) hX hC (min_ (by decide)) rfl rfl) hl.1 rfl (Nat.le_of_ble_eq_true rfl) ⟨Nat.zero_le _, Nat.zero_le _⟩ dX13_sheet_44 (fun _ H locs hC => ?_)
              refine W.eq (g2 := F0 m 47 ls [.int (-1000007)]) rfl ?_
              have hs : s_sheet fd ws sz nu s0 b n = (((-1000007), ws, sz, nu, p_find fd 6) : Int32 × Row × Row × Row × Row) := by grind [s_sheet]
              exact fr_i hx hb hr hlocks hX hC () (congrArg (fun z => some (Value.int z)) (t5_1 hs)) ((((congrArg (fun z => mct G (mpg d kp as bf sc ((s_sheet fd ws sz nu s0 b n).2.2.2.2) tp it z ((s_sheet fd ws sz nu s0 b n).2.2.1) ((s_sheet fd ws sz nu s0 b n).2.2.2.1) mv)) (t5_2 hs)).trans (congrArg (fun z => mct G (mpg d kp as bf sc ((s_sheet fd ws sz nu s0 b n).2.2.2.2) tp it ws z ((s_sheet fd ws sz nu s0 b n).2.2.2.1) mv)) (t5_3 hs))).trans (congrArg (fun z => mct G (mpg d kp as bf sc ((s_sheet fd ws sz nu s0 b n).2.2.2.2) tp it ws sz z mv)) (t5_4 hs))).trans (congrArg (fun z => mct G (mpg d kp as bf sc z tp it ws sz nu mv)) (t5_5 hs))).symm dX13_sheet_47
          · refine lv_aload_n hx hb dX13_sheet_29 rfl (lv_at hl 0 rfl) ?_
            refine lv_ldc (v := (-1000001)) hx hb hown (hts _ q1403) dX13_sheet_30 ?_
            refine fc_V (As := [.int (-1000001)]) (rest := []) hx hb hml hown hts hX hC (m_X13_finding 0 (vin_b rfl)) (lw_V q1404 q1406 qs56 q124 q1407) hdV_X13_finding ⟨rfl, rfl⟩ ⟨Nat.le_of_ble_eq_true rfl, Nat.le_of_ble_eq_true rfl⟩ (fx_recv (g := 0) (i := 0) (ci := 0) (q := (RX13, TX13, 24)) hX hC (min_ (by decide)) rfl rfl) hl.1 rfl (Nat.le_of_ble_eq_true rfl) ⟨Nat.zero_le _, Nat.zero_le _⟩ dX13_sheet_32 (fun _ H locs hC => ?_)
            refine W.eq (g2 := F0 m 35 ls [.int (-1000001)]) rfl ?_
            have hs : s_sheet fd ws sz nu s0 b n = (((-1000001), ws, sz, nu, p_find fd 0) : Int32 × Row × Row × Row × Row) := by grind [s_sheet]
            exact fr_i hx hb hr hlocks hX hC () (congrArg (fun z => some (Value.int z)) (t5_1 hs)) ((((congrArg (fun z => mct G (mpg d kp as bf sc ((s_sheet fd ws sz nu s0 b n).2.2.2.2) tp it z ((s_sheet fd ws sz nu s0 b n).2.2.1) ((s_sheet fd ws sz nu s0 b n).2.2.2.1) mv)) (t5_2 hs)).trans (congrArg (fun z => mct G (mpg d kp as bf sc ((s_sheet fd ws sz nu s0 b n).2.2.2.2) tp it ws z ((s_sheet fd ws sz nu s0 b n).2.2.2.1) mv)) (t5_3 hs))).trans (congrArg (fun z => mct G (mpg d kp as bf sc ((s_sheet fd ws sz nu s0 b n).2.2.2.2) tp it ws sz z mv)) (t5_4 hs))).trans (congrArg (fun z => mct G (mpg d kp as bf sc z tp it ws sz nu mv)) (t5_5 hs))).symm dX13_sheet_35
set_option maxRecDepth 100000 in
theorem m_X13_write {l : Launch} {G : Gm} {d kp as bf sc fd tp it ws sz nu mv : Row} (s0 i v : Int32) (hz : WS ws sz) : Cm l yX13_write (ws_ yX13_write cX13_write 4 (some .int)) ({ frames := 2, cells := 0, slots := 0, locals := 42 }) (mF G) [.ref (G.ad 0 0), .int s0, .int i, .int v] (mct G (mpg d kp as bf sc fd tp it ws sz nu mv)) (fun _ : Unit => some (.int ((s_write fd ws sz nu s0 i v).1))) (fun _ => mct G (mpg d kp as bf sc ((s_write fd ws sz nu s0 i v).2.2) tp it ws sz ((s_write fd ws sz nu s0 i v).2.1) mv)) := by
  refine Cm.start (by decide) (Nat.le_of_ble_eq_true rfl) ?_
  intro p e s m below meth c hf hX hC ls hl
  obtain ⟨hx, hb, hr, hml, hown, hts, hlocks⟩ := hf
  have hl : lv_has ls 4 [(0, .ref (G.ad 0 0)), (1, .int s0), (2, .int i), (3, .int v)] := hl
  have hown : s.vm.findClass "OwlEarsModel" = some m.cls := hown
  refine lv_iload_n hx hb dX13_write_0 rfl (lv_at hl 1 rfl) ?_
  refine fc_S (As := [.int s0]) (rest := []) hx hb hml hown hts hX hC (m_X13_isSheet s0) (lw_S q1691 q1692 q124 q1693) hdS_X13_isSheet ⟨rfl, rfl⟩ ⟨Nat.le_of_ble_eq_true rfl, Nat.le_of_ble_eq_true rfl⟩ hl.1 rfl (Nat.le_of_ble_eq_true rfl) ⟨Nat.zero_le _, Nat.zero_le _⟩ dX13_write_1 (fun _ H locs hC => ?_)
  refine W.eq (g2 := F0 m 4 ls [.int (b2i (p_in s0 0 3))]) rfl ?_
  refine fb_ne (tgt := 14) hx hb dX13_write_4 (by decide) (fun c_2 => ?_) (fun c_2 => ?_)
  · refine lv_aload_n hx hb dX13_write_14 rfl (lv_at hl 0 rfl) ?_
    refine fg_get (C := RX13) (T := TX13) (N := 24) (ci := 0) (g := 0) (i := 0) (v := .ref (G.ad 0 10)) hx hb hown hts hX hC in_X13 rfl (min_ (by decide)) rfl 20 (by decide) q1330 (fun _ h => h) rfl dX13_write_15 ?_
    refine lv_iload_n hx hb dX13_write_18 rfl (lv_at hl 1 rfl) ?_
    refine fg_iald (g := 0) (i := 10) (t0 := 0) (v := ws (ix s0)) hx hb hX hC (min_ (by decide)) rfl rfl (vin_of c_2 4 (by decide)) rfl dX13_write_19 ?_
    refine lv_if_ne (tgt := 30) hx hb dX13_write_20 (by decide) (fun c_3 => ?_) (fun c_3 => ?_)
    · refine lv_iload_n hx hb dX13_write_30 rfl (lv_at hl 2 rfl) ?_
      refine lv_iconst (v := 0) hx hb dX13_write_31 rfl ?_
      refine lv_aload_n hx hb dX13_write_32 rfl (lv_at hl 0 rfl) ?_
      refine fg_get (C := RX13) (T := TX13) (N := 24) (ci := 0) (g := 0) (i := 0) (v := .ref (G.ad 0 11)) hx hb hown hts hX hC in_X13 rfl (min_ (by decide)) rfl 21 (by decide) q1331 (fun _ h => h) rfl dX13_write_33 ?_
      refine lv_iload_n hx hb dX13_write_36 rfl (lv_at hl 1 rfl) ?_
      refine fg_iald (g := 0) (i := 11) (t0 := 0) (v := sz (ix s0)) hx hb hX hC (min_ (by decide)) rfl rfl (vin_of c_2 4 (by decide)) rfl dX13_write_37 ?_
      refine lv_iconst (v := 1) hx hb dX13_write_38 rfl ?_
      refine lv_isub hx hb dX13_write_39 ?_
      refine fc_S (As := [.int i, .int 0, .int ((sz (ix s0)) - 1)]) (rest := []) hx hb hml hown hts hX hC (m_X13_within i 0 ((sz (ix s0)) - 1)) (lw_S q1390 q1391 q124 q1392) hdS_X13_within ⟨rfl, rfl⟩ ⟨Nat.le_of_ble_eq_true rfl, Nat.le_of_ble_eq_true rfl⟩ hl.1 rfl (Nat.le_of_ble_eq_true rfl) ⟨Nat.zero_le _, Nat.zero_le _⟩ dX13_write_40 (fun _ H locs hC => ?_)
      refine W.eq (g2 := F0 m 43 ls [.int (b2i (p_in i 0 ((sz (ix s0)) - 1)))]) rfl ?_
      refine fb_ne (tgt := 53) hx hb dX13_write_43 (by decide) (fun c_5 => ?_) (fun c_5 => ?_)
      · refine lv_aload_n hx hb dX13_write_53 rfl (lv_at hl 0 rfl) ?_
        refine fg_get (C := RX13) (T := TX13) (N := 24) (ci := 0) (g := 0) (i := 0) (v := .ref (G.ad 0 12)) hx hb hown hts hX hC in_X13 rfl (min_ (by decide)) rfl 22 (by decide) q1332 (fun _ h => h) rfl dX13_write_54 ?_
        refine lv_bipush (v := 40) hx hb dX13_write_57 rfl ?_
        refine lv_iload_n hx hb dX13_write_59 rfl (lv_at hl 1 rfl) ?_
        refine lv_imul hx hb dX13_write_60 ?_
        refine lv_iload_n hx hb dX13_write_61 rfl (lv_at hl 2 rfl) ?_
        refine lv_iadd hx hb dX13_write_62 ?_
        refine lv_iload_n hx hb dX13_write_63 rfl (lv_at hl 3 rfl) ?_
        refine lv_aload_n hx hb dX13_write_64 rfl (lv_at hl 0 rfl) ?_
        refine fg_get (C := RX13) (T := TX13) (N := 24) (ci := 0) (g := 0) (i := 0) (v := .ref (G.ad 0 10)) hx hb hown hts hX hC in_X13 rfl (min_ (by decide)) rfl 20 (by decide) q1330 (fun _ h => h) rfl dX13_write_65 ?_
        refine lv_iload_n hx hb dX13_write_68 rfl (lv_at hl 1 rfl) ?_
        refine fg_iald (g := 0) (i := 10) (t0 := 0) (v := ws (ix s0)) hx hb hX hC (min_ (by decide)) rfl rfl (vin_of c_2 4 (by decide)) rfl dX13_write_69 ?_
        refine fc_S (As := [.int v, .int (ws (ix s0))]) (rest := [.int ((40 * s0) + i), .ref (G.ad 0 12)]) hx hb hml hown hts hX hC (m_X13_cutTo v (ws (ix s0))) (lw_S q1839 q1840 q124 q1841) hdS_X13_cutTo ⟨rfl, rfl⟩ ⟨Nat.le_of_ble_eq_true rfl, Nat.le_of_ble_eq_true rfl⟩ hl.1 rfl (Nat.le_of_ble_eq_true rfl) ⟨Nat.zero_le _, Nat.zero_le _⟩ dX13_write_70 (fun _ H locs hC => ?_)
        refine W.eq (g2 := F0 m 73 ls [.int (p_cut v (ws (ix s0))), .int ((40 * s0) + i), .ref (G.ad 0 12)]) rfl ?_
        refine fg_iast (g := 0) (i := 12) (t0 := 0) hx hb hX hC (min_ (by decide)) rfl rfl (vins (vin_of c_2 4 (by decide)) (in_lt (hz _ (vin_lt (vin_of c_2 4 (by decide)))).1 (by decide) c_5) (hz.sz (vin_lt (vin_of c_2 4 (by decide))))) (mct G (mpg d kp as bf sc fd tp it ws sz (upd nu (40 * ix s0 + ix i) (p_cut v (ws (ix s0)))) mv)) (mu mp12 (mst (ixs (vin_of c_2 4 (by decide)) (in_lt (hz _ (vin_lt (vin_of c_2 4 (by decide)))).1 (by decide) c_5) (hz.sz (vin_lt (vin_of c_2 4 (by decide))))))) dX13_write_73 (fun H locs hC => ?_)
        refine lv_iconst (v := 1) hx hb dX13_write_74 rfl ?_
        have hs : s_write fd ws sz nu s0 i v = ((1, upd nu (40 * ix s0 + ix i) (p_cut v (ws (ix s0))), fd) : Int32 × Row × Row) := by have hk : p_lack ws s0 = 0 := (if_pos c_2).trans (if_neg c_3); rw [s_write, if_pos hk, if_pos c_5]
        exact fr_i hx hb hr hlocks hX hC () (congrArg (fun z => some (Value.int z)) (t3_1 hs)) ((congrArg (fun z => mct G (mpg d kp as bf sc ((s_write fd ws sz nu s0 i v).2.2) tp it ws sz z mv)) (t3_2 hs)).trans (congrArg (fun z => mct G (mpg d kp as bf sc z tp it ws sz (upd nu (40 * ix s0 + ix i) (p_cut v (ws (ix s0)))) mv)) (t3_3 hs))).symm dX13_write_75
      · refine lv_aload_n hx hb dX13_write_46 rfl (lv_at hl 0 rfl) ?_
        refine lv_ldc (v := (-1000001)) hx hb hown (hts _ q1403) dX13_write_47 ?_
        refine fc_V (As := [.int (-1000001)]) (rest := []) hx hb hml hown hts hX hC (m_X13_finding 0 (vin_b rfl)) (lw_V q1404 q1406 qs56 q124 q1407) hdV_X13_finding ⟨rfl, rfl⟩ ⟨Nat.le_of_ble_eq_true rfl, Nat.le_of_ble_eq_true rfl⟩ (fx_recv (g := 0) (i := 0) (ci := 0) (q := (RX13, TX13, 24)) hX hC (min_ (by decide)) rfl rfl) hl.1 rfl (Nat.le_of_ble_eq_true rfl) ⟨Nat.zero_le _, Nat.zero_le _⟩ dX13_write_49 (fun _ H locs hC => ?_)
        refine W.eq (g2 := F0 m 52 ls [.int (-1000001)]) rfl ?_
        have hs : s_write fd ws sz nu s0 i v = (((-1000001), nu, p_find fd 0) : Int32 × Row × Row) := by have hk : p_lack ws s0 = 0 := (if_pos c_2).trans (if_neg c_3); rw [s_write, if_pos hk, if_neg c_5]
        exact fr_i hx hb hr hlocks hX hC () (congrArg (fun z => some (Value.int z)) (t3_1 hs)) ((congrArg (fun z => mct G (mpg d kp as bf sc ((s_write fd ws sz nu s0 i v).2.2) tp it ws sz z mv)) (t3_2 hs)).trans (congrArg (fun z => mct G (mpg d kp as bf sc z tp it ws sz nu mv)) (t3_3 hs))).symm dX13_write_52
    · refine lv_aload_n hx hb dX13_write_23 rfl (lv_at hl 0 rfl) ?_
      refine lv_ldc (v := (-1000006)) hx hb hown (hts _ q1694) dX13_write_24 ?_
      refine fc_V (As := [.int (-1000006)]) (rest := []) hx hb hml hown hts hX hC (m_X13_finding 5 (vin_b rfl)) (lw_V q1404 q1406 qs56 q124 q1407) hdV_X13_finding ⟨rfl, rfl⟩ ⟨Nat.le_of_ble_eq_true rfl, Nat.le_of_ble_eq_true rfl⟩ (fx_recv (g := 0) (i := 0) (ci := 0) (q := (RX13, TX13, 24)) hX hC (min_ (by decide)) rfl rfl) hl.1 rfl (Nat.le_of_ble_eq_true rfl) ⟨Nat.zero_le _, Nat.zero_le _⟩ dX13_write_26 (fun _ H locs hC => ?_)
      refine W.eq (g2 := F0 m 29 ls [.int (-1000006)]) rfl ?_
      have hs : s_write fd ws sz nu s0 i v = (((-1000006), nu, p_find fd 5) : Int32 × Row × Row) := by have hk : p_lack ws s0 = -1000006 := (if_pos c_2).trans (if_pos c_3); rw [s_write, if_neg (by rw [hk]; decide), hk]; rfl
      exact fr_i hx hb hr hlocks hX hC () (congrArg (fun z => some (Value.int z)) (t3_1 hs)) ((congrArg (fun z => mct G (mpg d kp as bf sc ((s_write fd ws sz nu s0 i v).2.2) tp it ws sz z mv)) (t3_2 hs)).trans (congrArg (fun z => mct G (mpg d kp as bf sc z tp it ws sz nu mv)) (t3_3 hs))).symm dX13_write_29
  · refine lv_aload_n hx hb dX13_write_7 rfl (lv_at hl 0 rfl) ?_
    refine lv_ldc (v := (-1000001)) hx hb hown (hts _ q1403) dX13_write_8 ?_
    refine fc_V (As := [.int (-1000001)]) (rest := []) hx hb hml hown hts hX hC (m_X13_finding 0 (vin_b rfl)) (lw_V q1404 q1406 qs56 q124 q1407) hdV_X13_finding ⟨rfl, rfl⟩ ⟨Nat.le_of_ble_eq_true rfl, Nat.le_of_ble_eq_true rfl⟩ (fx_recv (g := 0) (i := 0) (ci := 0) (q := (RX13, TX13, 24)) hX hC (min_ (by decide)) rfl rfl) hl.1 rfl (Nat.le_of_ble_eq_true rfl) ⟨Nat.zero_le _, Nat.zero_le _⟩ dX13_write_10 (fun _ H locs hC => ?_)
    refine W.eq (g2 := F0 m 13 ls [.int (-1000001)]) rfl ?_
    have hs : s_write fd ws sz nu s0 i v = (((-1000001), nu, p_find fd 0) : Int32 × Row × Row) := by have hk : p_lack ws s0 = -1000001 := if_neg c_2; rw [s_write, if_neg (by rw [hk]; decide), hk]; rfl
    exact fr_i hx hb hr hlocks hX hC () (congrArg (fun z => some (Value.int z)) (t3_1 hs)) ((congrArg (fun z => mct G (mpg d kp as bf sc ((s_write fd ws sz nu s0 i v).2.2) tp it ws sz z mv)) (t3_2 hs)).trans (congrArg (fun z => mct G (mpg d kp as bf sc z tp it ws sz nu mv)) (t3_3 hs))).symm dX13_write_13
set_option maxRecDepth 100000 in
theorem m_X13_copy {l : Launch} {G : Gm} {d kp as bf sc fd tp it ws sz nu mv : Row} (s0 f t o n : Int32) (hz : WS ws sz) : Cm l yX13_copy (ws_ yX13_copy cX13_copy 7 (some .int)) ({ frames := 2, cells := 0, slots := 0, locals := 42 }) (mF G) [.ref (G.ad 0 0), .int s0, .int f, .int t, .int o, .int n] (mct G (mpg d kp as bf sc fd tp it ws sz nu mv)) (fun u : Row => some (.int ((s_copy fd ws sz nu s0 f t o n).1))) (fun u => mct G (mpg d kp as bf sc ((s_copy fd ws sz nu s0 f t o n).2.2) tp it ws sz ((s_copy fd ws sz nu s0 f t o n).2.1) u)) := by
  refine Cm.start (by decide) (Nat.le_of_ble_eq_true rfl) ?_
  intro p e s m below meth c hf hX hC ls hl
  obtain ⟨hx, hb, hr, hml, hown, hts, hlocks⟩ := hf
  have hl : lv_has ls 7 [(0, .ref (G.ad 0 0)), (1, .int s0), (2, .int f), (3, .int t), (4, .int o), (5, .int n)] := hl
  have hown : s.vm.findClass "OwlEarsModel" = some m.cls := hown
  refine lv_iload_n hx hb dX13_copy_0 rfl (lv_at hl 1 rfl) ?_
  refine fc_S (As := [.int s0]) (rest := []) hx hb hml hown hts hX hC (m_X13_isSheet s0) (lw_S q1691 q1692 q124 q1693) hdS_X13_isSheet ⟨rfl, rfl⟩ ⟨Nat.le_of_ble_eq_true rfl, Nat.le_of_ble_eq_true rfl⟩ hl.1 rfl (Nat.le_of_ble_eq_true rfl) ⟨Nat.zero_le _, Nat.zero_le _⟩ dX13_copy_1 (fun _ H locs hC => ?_)
  refine W.eq (g2 := F0 m 4 ls [.int (b2i (p_in s0 0 3))]) rfl ?_
  refine fb_eq (tgt := 14) hx hb dX13_copy_4 (by decide) (fun c_2 => ?_) (fun c_2 => ?_)
  · refine lv_aload_n hx hb dX13_copy_14 rfl (lv_at hl 0 rfl) ?_
    refine lv_ldc (v := (-1000001)) hx hb hown (hts _ q1403) dX13_copy_15 ?_
    refine fc_V (As := [.int (-1000001)]) (rest := []) hx hb hml hown hts hX hC (m_X13_finding 0 (vin_b rfl)) (lw_V q1404 q1406 qs56 q124 q1407) hdV_X13_finding ⟨rfl, rfl⟩ ⟨Nat.le_of_ble_eq_true rfl, Nat.le_of_ble_eq_true rfl⟩ (fx_recv (g := 0) (i := 0) (ci := 0) (q := (RX13, TX13, 24)) hX hC (min_ (by decide)) rfl rfl) hl.1 rfl (Nat.le_of_ble_eq_true rfl) ⟨Nat.zero_le _, Nat.zero_le _⟩ dX13_copy_17 (fun _ H locs hC => ?_)
    refine W.eq (g2 := F0 m 20 ls [.int (-1000001)]) rfl ?_
    have hs : s_copy fd ws sz nu s0 f t o n = (((-1000001), nu, p_find fd 0) : Int32 × Row × Row) := by rw [s_copy, if_neg (fun z => c_2 z.1)]
    exact fr_i hx hb hr hlocks hX hC mv (congrArg (fun z => some (Value.int z)) (t3_1 hs)) ((congrArg (fun z => mct G (mpg d kp as bf sc ((s_copy fd ws sz nu s0 f t o n).2.2) tp it ws sz z mv)) (t3_2 hs)).trans (congrArg (fun z => mct G (mpg d kp as bf sc z tp it ws sz nu mv)) (t3_3 hs))).symm dX13_copy_20
  · refine lv_iload_n hx hb dX13_copy_7 rfl (lv_at hl 3 rfl) ?_
    refine fc_S (As := [.int t]) (rest := []) hx hb hml hown hts hX hC (m_X13_isSheet t) (lw_S q1691 q1692 q124 q1693) hdS_X13_isSheet ⟨rfl, rfl⟩ ⟨Nat.le_of_ble_eq_true rfl, Nat.le_of_ble_eq_true rfl⟩ hl.1 rfl (Nat.le_of_ble_eq_true rfl) ⟨Nat.zero_le _, Nat.zero_le _⟩ dX13_copy_8 (fun _ H locs hC => ?_)
    refine W.eq (g2 := F0 m 11 ls [.int (b2i (p_in t 0 3))]) rfl ?_
    refine fb_ne (tgt := 21) hx hb dX13_copy_11 (by decide) (fun c_4 => ?_) (fun c_4 => ?_)
    · refine lv_aload_n hx hb dX13_copy_21 rfl (lv_at hl 0 rfl) ?_
      refine fg_get (C := RX13) (T := TX13) (N := 24) (ci := 0) (g := 0) (i := 0) (v := .ref (G.ad 0 10)) hx hb hown hts hX hC in_X13 rfl (min_ (by decide)) rfl 20 (by decide) q1330 (fun _ h => h) rfl dX13_copy_22 ?_
      refine lv_iload_n hx hb dX13_copy_25 rfl (lv_at hl 1 rfl) ?_
      refine fg_iald (g := 0) (i := 10) (t0 := 0) (v := ws (ix s0)) hx hb hX hC (min_ (by decide)) rfl rfl (vin_of c_2 4 (by decide)) rfl dX13_copy_26 ?_
      refine lv_if_eq (tgt := 39) hx hb dX13_copy_27 (by decide) (fun c_5 => ?_) (fun c_5 => ?_)
      · refine lv_aload_n hx hb dX13_copy_39 rfl (lv_at hl 0 rfl) ?_
        refine lv_ldc (v := (-1000006)) hx hb hown (hts _ q1694) dX13_copy_40 ?_
        refine fc_V (As := [.int (-1000006)]) (rest := []) hx hb hml hown hts hX hC (m_X13_finding 5 (vin_b rfl)) (lw_V q1404 q1406 qs56 q124 q1407) hdV_X13_finding ⟨rfl, rfl⟩ ⟨Nat.le_of_ble_eq_true rfl, Nat.le_of_ble_eq_true rfl⟩ (fx_recv (g := 0) (i := 0) (ci := 0) (q := (RX13, TX13, 24)) hX hC (min_ (by decide)) rfl rfl) hl.1 rfl (Nat.le_of_ble_eq_true rfl) ⟨Nat.zero_le _, Nat.zero_le _⟩ dX13_copy_42 (fun _ H locs hC => ?_)
        refine W.eq (g2 := F0 m 45 ls [.int (-1000006)]) rfl ?_
        have hs : s_copy fd ws sz nu s0 f t o n = (((-1000006), nu, p_find fd 5) : Int32 × Row × Row) := by rw [s_copy, if_pos ⟨c_2, c_4⟩, if_pos (Or.inl c_5)]
        exact fr_i hx hb hr hlocks hX hC mv (congrArg (fun z => some (Value.int z)) (t3_1 hs)) ((congrArg (fun z => mct G (mpg d kp as bf sc ((s_copy fd ws sz nu s0 f t o n).2.2) tp it ws sz z mv)) (t3_2 hs)).trans (congrArg (fun z => mct G (mpg d kp as bf sc z tp it ws sz nu mv)) (t3_3 hs))).symm dX13_copy_45
      · refine lv_aload_n hx hb dX13_copy_30 rfl (lv_at hl 0 rfl) ?_
        refine fg_get (C := RX13) (T := TX13) (N := 24) (ci := 0) (g := 0) (i := 0) (v := .ref (G.ad 0 10)) hx hb hown hts hX hC in_X13 rfl (min_ (by decide)) rfl 20 (by decide) q1330 (fun _ h => h) rfl dX13_copy_31 ?_
        refine lv_iload_n hx hb dX13_copy_34 rfl (lv_at hl 3 rfl) ?_
        refine fg_iald (g := 0) (i := 10) (t0 := 0) (v := ws (ix t)) hx hb hX hC (min_ (by decide)) rfl rfl (vin_of c_4 4 (by decide)) rfl dX13_copy_35 ?_
        refine lv_if_ne (tgt := 46) hx hb dX13_copy_36 (by decide) (fun c_6 => ?_) (fun c_6 => ?_)
        · refine lv_aload_n hx hb dX13_copy_46 rfl (lv_at hl 0 rfl) ?_
          refine fg_get (C := RX13) (T := TX13) (N := 24) (ci := 0) (g := 0) (i := 0) (v := .ref (G.ad 0 10)) hx hb hown hts hX hC in_X13 rfl (min_ (by decide)) rfl 20 (by decide) q1330 (fun _ h => h) rfl dX13_copy_47 ?_
          refine lv_iload_n hx hb dX13_copy_50 rfl (lv_at hl 1 rfl) ?_
          refine fg_iald (g := 0) (i := 10) (t0 := 0) (v := ws (ix s0)) hx hb hX hC (min_ (by decide)) rfl rfl (vin_of c_2 4 (by decide)) rfl dX13_copy_51 ?_
          refine lv_aload_n hx hb dX13_copy_52 rfl (lv_at hl 0 rfl) ?_
          refine fg_get (C := RX13) (T := TX13) (N := 24) (ci := 0) (g := 0) (i := 0) (v := .ref (G.ad 0 10)) hx hb hown hts hX hC in_X13 rfl (min_ (by decide)) rfl 20 (by decide) q1330 (fun _ h => h) rfl dX13_copy_53 ?_
          refine lv_iload_n hx hb dX13_copy_56 rfl (lv_at hl 3 rfl) ?_
          refine fg_iald (g := 0) (i := 10) (t0 := 0) (v := ws (ix t)) hx hb hX hC (min_ (by decide)) rfl rfl (vin_of c_4 4 (by decide)) rfl dX13_copy_57 ?_
          refine lv_icmp_eq (tgt := 69) hx hb dX13_copy_58 (by decide) (fun c_7 => ?_) (fun c_7 => ?_)
          · refine lv_iload_n hx hb dX13_copy_69 rfl (lv_at hl 2 rfl) ?_
            refine lv_if_lt (tgt := 118) hx hb dX13_copy_70 (by decide) (fun c_8 => ?_) (fun c_8 => ?_)
            · refine lv_aload_n hx hb dX13_copy_118 rfl (lv_at hl 0 rfl) ?_
              refine lv_ldc (v := (-1000001)) hx hb hown (hts _ q1403) dX13_copy_119 ?_
              refine fc_V (As := [.int (-1000001)]) (rest := []) hx hb hml hown hts hX hC (m_X13_finding 0 (vin_b rfl)) (lw_V q1404 q1406 qs56 q124 q1407) hdV_X13_finding ⟨rfl, rfl⟩ ⟨Nat.le_of_ble_eq_true rfl, Nat.le_of_ble_eq_true rfl⟩ (fx_recv (g := 0) (i := 0) (ci := 0) (q := (RX13, TX13, 24)) hX hC (min_ (by decide)) rfl rfl) hl.1 rfl (Nat.le_of_ble_eq_true rfl) ⟨Nat.zero_le _, Nat.zero_le _⟩ dX13_copy_121 (fun _ H locs hC => ?_)
              refine W.eq (g2 := F0 m 124 ls [.int (-1000001)]) rfl ?_
              have hs : s_copy fd ws sz nu s0 f t o n = (((-1000001), nu, p_find fd 0) : Int32 × Row × Row) := by rw [s_copy, if_pos ⟨c_2, c_4⟩, if_neg (fun z => z.elim c_5 c_6), if_pos c_7, if_neg (fun z => z.2.1 c_8)]
              exact fr_i hx hb hr hlocks hX hC mv (congrArg (fun z => some (Value.int z)) (t3_1 hs)) ((congrArg (fun z => mct G (mpg d kp as bf sc ((s_copy fd ws sz nu s0 f t o n).2.2) tp it ws sz z mv)) (t3_2 hs)).trans (congrArg (fun z => mct G (mpg d kp as bf sc z tp it ws sz nu mv)) (t3_3 hs))).symm dX13_copy_124
            · refine lv_iload hx hb dX13_copy_73 (lv_at hl 4 rfl) ?_
              refine lv_if_lt (tgt := 118) hx hb dX13_copy_75 (by decide) (fun c_9 => ?_) (fun c_9 => ?_)
              · refine lv_aload_n hx hb dX13_copy_118 rfl (lv_at hl 0 rfl) ?_
                refine lv_ldc (v := (-1000001)) hx hb hown (hts _ q1403) dX13_copy_119 ?_
                refine fc_V (As := [.int (-1000001)]) (rest := []) hx hb hml hown hts hX hC (m_X13_finding 0 (vin_b rfl)) (lw_V q1404 q1406 qs56 q124 q1407) hdV_X13_finding ⟨rfl, rfl⟩ ⟨Nat.le_of_ble_eq_true rfl, Nat.le_of_ble_eq_true rfl⟩ (fx_recv (g := 0) (i := 0) (ci := 0) (q := (RX13, TX13, 24)) hX hC (min_ (by decide)) rfl rfl) hl.1 rfl (Nat.le_of_ble_eq_true rfl) ⟨Nat.zero_le _, Nat.zero_le _⟩ dX13_copy_121 (fun _ H locs hC => ?_)
                refine W.eq (g2 := F0 m 124 ls [.int (-1000001)]) rfl ?_
                have hs : s_copy fd ws sz nu s0 f t o n = (((-1000001), nu, p_find fd 0) : Int32 × Row × Row) := by rw [s_copy, if_pos ⟨c_2, c_4⟩, if_neg (fun z => z.elim c_5 c_6), if_pos c_7, if_neg (fun z => z.2.2.1 c_9)]
                exact fr_i hx hb hr hlocks hX hC mv (congrArg (fun z => some (Value.int z)) (t3_1 hs)) ((congrArg (fun z => mct G (mpg d kp as bf sc ((s_copy fd ws sz nu s0 f t o n).2.2) tp it ws sz z mv)) (t3_2 hs)).trans (congrArg (fun z => mct G (mpg d kp as bf sc z tp it ws sz nu mv)) (t3_3 hs))).symm dX13_copy_124
              · refine lv_iload hx hb dX13_copy_78 (lv_at hl 5 rfl) ?_
                refine lv_if_lt (tgt := 118) hx hb dX13_copy_80 (by decide) (fun c_10 => ?_) (fun c_10 => ?_)
                · refine lv_aload_n hx hb dX13_copy_118 rfl (lv_at hl 0 rfl) ?_
                  refine lv_ldc (v := (-1000001)) hx hb hown (hts _ q1403) dX13_copy_119 ?_
                  refine fc_V (As := [.int (-1000001)]) (rest := []) hx hb hml hown hts hX hC (m_X13_finding 0 (vin_b rfl)) (lw_V q1404 q1406 qs56 q124 q1407) hdV_X13_finding ⟨rfl, rfl⟩ ⟨Nat.le_of_ble_eq_true rfl, Nat.le_of_ble_eq_true rfl⟩ (fx_recv (g := 0) (i := 0) (ci := 0) (q := (RX13, TX13, 24)) hX hC (min_ (by decide)) rfl rfl) hl.1 rfl (Nat.le_of_ble_eq_true rfl) ⟨Nat.zero_le _, Nat.zero_le _⟩ dX13_copy_121 (fun _ H locs hC => ?_)
                  refine W.eq (g2 := F0 m 124 ls [.int (-1000001)]) rfl ?_
                  have hs : s_copy fd ws sz nu s0 f t o n = (((-1000001), nu, p_find fd 0) : Int32 × Row × Row) := by rw [s_copy, if_pos ⟨c_2, c_4⟩, if_neg (fun z => z.elim c_5 c_6), if_pos c_7, if_neg (fun z => z.1 c_10)]
                  exact fr_i hx hb hr hlocks hX hC mv (congrArg (fun z => some (Value.int z)) (t3_1 hs)) ((congrArg (fun z => mct G (mpg d kp as bf sc ((s_copy fd ws sz nu s0 f t o n).2.2) tp it ws sz z mv)) (t3_2 hs)).trans (congrArg (fun z => mct G (mpg d kp as bf sc z tp it ws sz nu mv)) (t3_3 hs))).symm dX13_copy_124
                · refine lv_iload_n hx hb dX13_copy_83 rfl (lv_at hl 2 rfl) ?_
                  refine lv_i2l (v := f.toInt64) hx hb dX13_copy_84 rfl ?_
                  refine lv_iload hx hb dX13_copy_85 (lv_at hl 5 rfl) ?_
                  refine lv_i2l (v := n.toInt64) hx hb dX13_copy_87 rfl ?_
                  refine lv_ladd hx hb dX13_copy_88 ?_
                  refine lv_aload_n hx hb dX13_copy_89 rfl (lv_at hl 0 rfl) ?_
                  refine fg_get (C := RX13) (T := TX13) (N := 24) (ci := 0) (g := 0) (i := 0) (v := .ref (G.ad 0 11)) hx hb hown hts hX hC in_X13 rfl (min_ (by decide)) rfl 21 (by decide) q1331 (fun _ h => h) rfl dX13_copy_90 ?_
                  refine lv_iload_n hx hb dX13_copy_93 rfl (lv_at hl 1 rfl) ?_
                  refine fg_iald (g := 0) (i := 11) (t0 := 0) (v := sz (ix s0)) hx hb hX hC (min_ (by decide)) rfl rfl (vin_of c_2 4 (by decide)) rfl dX13_copy_94 ?_
                  refine lv_i2l (v := (sz (ix s0)).toInt64) hx hb dX13_copy_95 rfl ?_
                  refine W.lcmp hx hb dX13_copy_96 ?_
                  refine lv_if_gt (tgt := 118) hx hb dX13_copy_97 (by decide) (fun c_11 => ?_) (fun c_11 => ?_)
                  · refine lv_aload_n hx hb dX13_copy_118 rfl (lv_at hl 0 rfl) ?_
                    refine lv_ldc (v := (-1000001)) hx hb hown (hts _ q1403) dX13_copy_119 ?_
                    refine fc_V (As := [.int (-1000001)]) (rest := []) hx hb hml hown hts hX hC (m_X13_finding 0 (vin_b rfl)) (lw_V q1404 q1406 qs56 q124 q1407) hdV_X13_finding ⟨rfl, rfl⟩ ⟨Nat.le_of_ble_eq_true rfl, Nat.le_of_ble_eq_true rfl⟩ (fx_recv (g := 0) (i := 0) (ci := 0) (q := (RX13, TX13, 24)) hX hC (min_ (by decide)) rfl rfl) hl.1 rfl (Nat.le_of_ble_eq_true rfl) ⟨Nat.zero_le _, Nat.zero_le _⟩ dX13_copy_121 (fun _ H locs hC => ?_)
                    refine W.eq (g2 := F0 m 124 ls [.int (-1000001)]) rfl ?_
                    have hs : s_copy fd ws sz nu s0 f t o n = (((-1000001), nu, p_find fd 0) : Int32 × Row × Row) := by rw [s_copy, if_pos ⟨c_2, c_4⟩, if_neg (fun z => z.elim c_5 c_6), if_pos c_7, if_neg (fun z => z.2.2.2.1 ((mv_long (hz _ (vin_lt (vin_of c_2 4 (by decide)))).1 c_10 c_8).mp c_11))]
                    exact fr_i hx hb hr hlocks hX hC mv (congrArg (fun z => some (Value.int z)) (t3_1 hs)) ((congrArg (fun z => mct G (mpg d kp as bf sc ((s_copy fd ws sz nu s0 f t o n).2.2) tp it ws sz z mv)) (t3_2 hs)).trans (congrArg (fun z => mct G (mpg d kp as bf sc z tp it ws sz nu mv)) (t3_3 hs))).symm dX13_copy_124
                  · refine lv_iload hx hb dX13_copy_100 (lv_at hl 4 rfl) ?_
                    refine lv_i2l (v := o.toInt64) hx hb dX13_copy_102 rfl ?_
                    refine lv_iload hx hb dX13_copy_103 (lv_at hl 5 rfl) ?_
                    refine lv_i2l (v := n.toInt64) hx hb dX13_copy_105 rfl ?_
                    refine lv_ladd hx hb dX13_copy_106 ?_
                    refine lv_aload_n hx hb dX13_copy_107 rfl (lv_at hl 0 rfl) ?_
                    refine fg_get (C := RX13) (T := TX13) (N := 24) (ci := 0) (g := 0) (i := 0) (v := .ref (G.ad 0 11)) hx hb hown hts hX hC in_X13 rfl (min_ (by decide)) rfl 21 (by decide) q1331 (fun _ h => h) rfl dX13_copy_108 ?_
                    refine lv_iload_n hx hb dX13_copy_111 rfl (lv_at hl 3 rfl) ?_
                    refine fg_iald (g := 0) (i := 11) (t0 := 0) (v := sz (ix t)) hx hb hX hC (min_ (by decide)) rfl rfl (vin_of c_4 4 (by decide)) rfl dX13_copy_112 ?_
                    refine lv_i2l (v := (sz (ix t)).toInt64) hx hb dX13_copy_113 rfl ?_
                    refine W.lcmp hx hb dX13_copy_114 ?_
                    refine fi_le (tgt := 125) hx hb dX13_copy_115 (by decide) (fun c_12 => ?_) (fun c_12 => ?_)
                    · have hq1 : ¬ sz (ix s0) - n < f := fun z => c_11 ((mv_long (hz _ (vin_lt (vin_of c_2 4 (by decide)))).1 c_10 c_8).mpr z)
                      have hq2 : ¬ sz (ix t) - n < o := fun z => c_12 ((mv_long (hz _ (vin_lt (vin_of c_4 4 (by decide)))).1 c_10 c_9).mpr z)
                      have hm1 := mv_in (hz _ (vin_lt (vin_of c_2 4 (by decide)))).1 c_10 c_8 hq1
                      have hm2 := mv_in (hz _ (vin_lt (vin_of c_4 4 (by decide)))).1 c_10 c_9 hq2
                      refine lv_iconst (v := 0) hx hb dX13_copy_125 rfl ?_
                      refine lv_istore (lv' := [(6, .int 0), (0, .ref (G.ad 0 0)), (1, .int s0), (2, .int f), (3, .int t), (4, .int o), (5, .int n)]) hx hb dX13_copy_126 hl (by decide) rfl (fun ls hl => ?_)
                      have L_13 : ∀ (k13 i13 : Nat), i13 + k13 = ix n → ∀ (H : Heap) (locs : List Loc), fC (mF G) (mct G (mpg d kp as bf sc fd tp it ws sz nu (p_lby nu mv (40 * ix s0 + ix f) i13))) s.heap H locs → ∀ ls : Array Slot, lv_has ls 7 [(0, .ref (G.ad 0 0)), (1, .int s0), (2, .int f), (3, .int t), (4, .int o), (5, .int n), (6, .int (nI i13))] → WG p l e ({ frames := 2, cells := 0, slots := 0, locals := 42 }) s m (([.ref (G.ad 0 0), .int s0, .int f, .int t, .int o, .int n] : List Value).toArray) below meth c H locs (mF G) (fun u : Row => some (.int ((s_copy fd ws sz nu s0 f t o n).1))) (fun u => mct G (mpg d kp as bf sc ((s_copy fd ws sz nu s0 f t o n).2.2) tp it ws sz ((s_copy fd ws sz nu s0 f t o n).2.1) u)) (F0 m 128 ls []) := by
                        intro k13
                        induction k13 with
                        | zero =>
                          intro i13 hi13 H locs hC ls hl
                          obtain rfl : i13 = ix n := by omega
                          refine lv_iload hx hb dX13_copy_128 (lv_at hl 6 rfl) ?_
                          refine lv_iload hx hb dX13_copy_130 (lv_at hl 5 rfl) ?_
                          refine fj_ge (tgt := 162) hx hb dX13_copy_132 (by decide) (fun _ => ?_) (fun z_14 => absurd z_14 (nlt_ix (n := n)))
                          refine lv_iconst (v := 0) hx hb dX13_copy_162 rfl ?_
                          refine lv_istore (lv' := [(6, .int 0), (0, .ref (G.ad 0 0)), (1, .int s0), (2, .int f), (3, .int t), (4, .int o), (5, .int n)]) hx hb dX13_copy_163 hl (by decide) rfl (fun ls hl => ?_)
                          have L_15 : ∀ (k15 i15 : Nat), i15 + k15 = ix n → ∀ (H : Heap) (locs : List Loc), fC (mF G) (mct G (mpg d kp as bf sc fd tp it ws sz (p_mv nu (40 * ix s0 + ix f) (40 * ix t + ix o) i15) (p_lby nu mv (40 * ix s0 + ix f) (ix n)))) s.heap H locs → ∀ ls : Array Slot, lv_has ls 7 [(0, .ref (G.ad 0 0)), (1, .int s0), (2, .int f), (3, .int t), (4, .int o), (5, .int n), (6, .int (nI i15))] → WG p l e ({ frames := 2, cells := 0, slots := 0, locals := 42 }) s m (([.ref (G.ad 0 0), .int s0, .int f, .int t, .int o, .int n] : List Value).toArray) below meth c H locs (mF G) (fun u : Row => some (.int ((s_copy fd ws sz nu s0 f t o n).1))) (fun u => mct G (mpg d kp as bf sc ((s_copy fd ws sz nu s0 f t o n).2.2) tp it ws sz ((s_copy fd ws sz nu s0 f t o n).2.1) u)) (F0 m 165 ls []) := by
                            intro k15
                            induction k15 with
                            | zero =>
                              intro i15 hi15 H locs hC ls hl
                              obtain rfl : i15 = ix n := by omega
                              refine lv_iload hx hb dX13_copy_165 (lv_at hl 6 rfl) ?_
                              refine lv_iload hx hb dX13_copy_167 (lv_at hl 5 rfl) ?_
                              refine fj_ge (tgt := 200) hx hb dX13_copy_169 (by decide) (fun _ => ?_) (fun z_16 => absurd z_16 (nlt_ix (n := n)))
                              refine lv_iload hx hb dX13_copy_200 (lv_at hl 5 rfl) ?_
                              have hs : s_copy fd ws sz nu s0 f t o n = ((n, p_mv nu (40 * ix s0 + ix f) (40 * ix t + ix o) (ix n), fd) : Int32 × Row × Row) := by rw [s_copy, if_pos ⟨c_2, c_4⟩, if_neg (fun z => z.elim c_5 c_6), if_pos c_7, if_pos ⟨c_10, c_8, c_9, hq1, hq2⟩]
                              exact fr_i hx hb hr hlocks hX hC (p_lby nu mv (40 * ix s0 + ix f) (ix n)) (congrArg (fun z => some (Value.int z)) (t3_1 hs)) ((congrArg (fun z => mct G (mpg d kp as bf sc ((s_copy fd ws sz nu s0 f t o n).2.2) tp it ws sz z (p_lby nu mv (40 * ix s0 + ix f) (ix n)))) (t3_2 hs)).trans (congrArg (fun z => mct G (mpg d kp as bf sc z tp it ws sz (p_mv nu (40 * ix s0 + ix f) (40 * ix t + ix o) (ix n)) (p_lby nu mv (40 * ix s0 + ix f) (ix n)))) (t3_3 hs))).symm dX13_copy_202
                            | succ k15 ih15 =>
                              intro i15 hi15 H locs hC ls hl
                              have hz15 : i15 < 2147483648 := by have := ix_lt n; omega
                              refine lv_iload hx hb dX13_copy_165 (lv_at hl 6 rfl) ?_
                              refine lv_iload hx hb dX13_copy_167 (lv_at hl 5 rfl) ?_
                              refine fj_ge (tgt := 200) hx hb dX13_copy_169 (by decide) (fun z_17 => absurd (lt_ix (n := n) (show i15 < ix n by omega)) z_17) (fun _ => ?_)
                              refine lv_aload_n hx hb dX13_copy_172 rfl (lv_at hl 0 rfl) ?_
                              refine fg_get (C := RX13) (T := TX13) (N := 24) (ci := 0) (g := 0) (i := 0) (v := .ref (G.ad 0 12)) hx hb hown hts hX hC in_X13 rfl (min_ (by decide)) rfl 22 (by decide) q1332 (fun _ h => h) rfl dX13_copy_173 ?_
                              refine lv_bipush (v := 40) hx hb dX13_copy_176 rfl ?_
                              refine lv_iload_n hx hb dX13_copy_178 rfl (lv_at hl 3 rfl) ?_
                              refine lv_imul hx hb dX13_copy_179 ?_
                              refine lv_iload hx hb dX13_copy_180 (lv_at hl 4 rfl) ?_
                              refine lv_iadd hx hb dX13_copy_182 ?_
                              refine lv_iload hx hb dX13_copy_183 (lv_at hl 6 rfl) ?_
                              refine lv_iadd hx hb dX13_copy_185 ?_
                              refine lv_aload_n hx hb dX13_copy_186 rfl (lv_at hl 0 rfl) ?_
                              refine fg_get (C := RX13) (T := TX13) (N := 24) (ci := 0) (g := 0) (i := 0) (v := .ref (G.ad 0 13)) hx hb hown hts hX hC in_X13 rfl (min_ (by decide)) rfl 23 (by decide) q1333 (fun _ h => h) rfl dX13_copy_187 ?_
                              refine lv_iload hx hb dX13_copy_190 (lv_at hl 6 rfl) ?_
                              refine fg_iald (g := 0) (i := 13) (t0 := 0) (v := (p_lby nu mv (40 * ix s0 + ix f) (ix n)) i15) hx hb hX hC (min_ (by decide)) rfl rfl (vp_in_nI (show i15 < 40 by have := hm1.1; have := hz.sz (vin_lt (vin_of c_2 4 (by decide))); omega) (by decide)) (congrArg (p_lby nu mv (40 * ix s0 + ix f) (ix n)) (nI_clamp (by omega))) dX13_copy_192 ?_
                              refine fg_iast (g := 0) (i := 12) (t0 := 0) hx hb hX hC (min_ (by decide)) rfl rfl (ix3 (vin_of c_4 4 (by decide)) hm2.2 (by have := hm2.1; have := hz.sz (vin_lt (vin_of c_4 4 (by decide))); omega)).2 (mct G (mpg d kp as bf sc fd tp it ws sz (upd (p_mv nu (40 * ix s0 + ix f) (40 * ix t + ix o) i15) (40 * ix t + ix o + i15) ((p_lby nu mv (40 * ix s0 + ix f) (ix n)) i15)) (p_lby nu mv (40 * ix s0 + ix f) (ix n)))) (mu mp12 (mst (ix3 (vin_of c_4 4 (by decide)) hm2.2 (by have := hm2.1; have := hz.sz (vin_lt (vin_of c_4 4 (by decide))); omega)).1)) dX13_copy_193 (fun H locs hC => ?_)
                              refine lv_iinc (v := nI (i15 + 1)) (lv' := [(6, .int (nI (i15 + 1))), (0, .ref (G.ad 0 0)), (1, .int s0), (2, .int f), (3, .int t), (4, .int o), (5, .int n)]) hx hb dX13_copy_194 hl (k := 6) rfl (nI_1 _) (by decide) rfl (fun ls hl => ?_)
                              refine lv_goto (tgt := 165) hx hb dX13_copy_197 (by decide) ?_
                              have e9 : p_lby nu mv (40 * ix s0 + ix f) (ix n) i15 = nu ((40 * ix s0 + ix f) + i15) := if_pos (by omega)
                              rw [e9] at hC
                              have hC := (congrArg (fun z => fC (mF G) (mct G (mpg d kp as bf sc fd tp it ws sz z (p_lby nu mv (40 * ix s0 + ix f) (ix n)))) s.heap _ _) (p_mv_s nu (40 * ix s0 + ix f) (40 * ix t + ix o) i15)).mp hC
                              exact ih15 (i15 + 1) (by omega) _ _ hC ls (lv_sub hl [1, 2, 3, 4, 5, 6, 0] rfl)
                          have hC := (congrArg (fun z => fC (mF G) (mct G (mpg d kp as bf sc fd tp it ws sz z (p_lby nu mv (40 * ix s0 + ix f) (ix n)))) s.heap _ _) (p_mv_0 nu (40 * ix s0 + ix f) (40 * ix t + ix o))).mp hC
                          exact L_15 (ix n) 0 (by omega) _ _ hC ls (lv_sub hl [1, 2, 3, 4, 5, 6, 0] rfl)
                        | succ k13 ih13 =>
                          intro i13 hi13 H locs hC ls hl
                          have hz13 : i13 < 2147483648 := by have := ix_lt n; omega
                          refine lv_iload hx hb dX13_copy_128 (lv_at hl 6 rfl) ?_
                          refine lv_iload hx hb dX13_copy_130 (lv_at hl 5 rfl) ?_
                          refine fj_ge (tgt := 162) hx hb dX13_copy_132 (by decide) (fun z_18 => absurd (lt_ix (n := n) (show i13 < ix n by omega)) z_18) (fun _ => ?_)
                          refine lv_aload_n hx hb dX13_copy_135 rfl (lv_at hl 0 rfl) ?_
                          refine fg_get (C := RX13) (T := TX13) (N := 24) (ci := 0) (g := 0) (i := 0) (v := .ref (G.ad 0 13)) hx hb hown hts hX hC in_X13 rfl (min_ (by decide)) rfl 23 (by decide) q1333 (fun _ h => h) rfl dX13_copy_136 ?_
                          refine lv_iload hx hb dX13_copy_139 (lv_at hl 6 rfl) ?_
                          refine lv_aload_n hx hb dX13_copy_141 rfl (lv_at hl 0 rfl) ?_
                          refine fg_get (C := RX13) (T := TX13) (N := 24) (ci := 0) (g := 0) (i := 0) (v := .ref (G.ad 0 12)) hx hb hown hts hX hC in_X13 rfl (min_ (by decide)) rfl 22 (by decide) q1332 (fun _ h => h) rfl dX13_copy_142 ?_
                          refine lv_bipush (v := 40) hx hb dX13_copy_145 rfl ?_
                          refine lv_iload_n hx hb dX13_copy_147 rfl (lv_at hl 1 rfl) ?_
                          refine lv_imul hx hb dX13_copy_148 ?_
                          refine lv_iload_n hx hb dX13_copy_149 rfl (lv_at hl 2 rfl) ?_
                          refine lv_iadd hx hb dX13_copy_150 ?_
                          refine lv_iload hx hb dX13_copy_151 (lv_at hl 6 rfl) ?_
                          refine lv_iadd hx hb dX13_copy_153 ?_
                          refine fg_iald (g := 0) (i := 12) (t0 := 0) (v := nu (40 * ix s0 + ix f + i13)) hx hb hX hC (min_ (by decide)) rfl rfl (ix3 (vin_of c_2 4 (by decide)) hm1.2 (by have := hm1.1; have := hz.sz (vin_lt (vin_of c_2 4 (by decide))); omega)).2 (congrArg nu (ix3 (vin_of c_2 4 (by decide)) hm1.2 (by have := hm1.1; have := hz.sz (vin_lt (vin_of c_2 4 (by decide))); omega)).1) dX13_copy_154 ?_
                          refine fg_iast (g := 0) (i := 13) (t0 := 0) hx hb hX hC (min_ (by decide)) rfl rfl (vp_in_nI (show i13 < 40 by have := hm1.1; have := hz.sz (vin_lt (vin_of c_2 4 (by decide))); omega) (by decide)) (mct G (mpg d kp as bf sc fd tp it ws sz nu (upd (p_lby nu mv (40 * ix s0 + ix f) i13) i13 (nu (40 * ix s0 + ix f + i13))))) (mu mp13 (mst (nI_clamp (by omega)))) dX13_copy_155 (fun H locs hC => ?_)
                          refine lv_iinc (v := nI (i13 + 1)) (lv' := [(6, .int (nI (i13 + 1))), (0, .ref (G.ad 0 0)), (1, .int s0), (2, .int f), (3, .int t), (4, .int o), (5, .int n)]) hx hb dX13_copy_156 hl (k := 6) rfl (nI_1 _) (by decide) rfl (fun ls hl => ?_)
                          refine lv_goto (tgt := 128) hx hb dX13_copy_159 (by decide) ?_
                          have hC := (congrArg (fun z => fC (mF G) (mct G (mpg d kp as bf sc fd tp it ws sz nu z)) s.heap _ _) (p_lby_s nu mv (40 * ix s0 + ix f) i13)).mp hC
                          exact ih13 (i13 + 1) (by omega) _ _ hC ls (lv_sub hl [1, 2, 3, 4, 5, 6, 0] rfl)
                      have hC := (congrArg (fun z => fC (mF G) (mct G (mpg d kp as bf sc fd tp it ws sz nu z)) s.heap _ _) (p_lby_0 nu mv (40 * ix s0 + ix f))).mp hC
                      exact L_13 (ix n) 0 (by omega) _ _ hC ls (lv_sub hl [1, 2, 3, 4, 5, 6, 0] rfl)
                    · refine lv_aload_n hx hb dX13_copy_118 rfl (lv_at hl 0 rfl) ?_
                      refine lv_ldc (v := (-1000001)) hx hb hown (hts _ q1403) dX13_copy_119 ?_
                      refine fc_V (As := [.int (-1000001)]) (rest := []) hx hb hml hown hts hX hC (m_X13_finding 0 (vin_b rfl)) (lw_V q1404 q1406 qs56 q124 q1407) hdV_X13_finding ⟨rfl, rfl⟩ ⟨Nat.le_of_ble_eq_true rfl, Nat.le_of_ble_eq_true rfl⟩ (fx_recv (g := 0) (i := 0) (ci := 0) (q := (RX13, TX13, 24)) hX hC (min_ (by decide)) rfl rfl) hl.1 rfl (Nat.le_of_ble_eq_true rfl) ⟨Nat.zero_le _, Nat.zero_le _⟩ dX13_copy_121 (fun _ H locs hC => ?_)
                      refine W.eq (g2 := F0 m 124 ls [.int (-1000001)]) rfl ?_
                      have hs : s_copy fd ws sz nu s0 f t o n = (((-1000001), nu, p_find fd 0) : Int32 × Row × Row) := by rw [s_copy, if_pos ⟨c_2, c_4⟩, if_neg (fun z => z.elim c_5 c_6), if_pos c_7, if_neg (fun z => z.2.2.2.2 ((mv_long (hz _ (vin_lt (vin_of c_4 4 (by decide)))).1 c_10 c_9).mp c_12))]
                      exact fr_i hx hb hr hlocks hX hC mv (congrArg (fun z => some (Value.int z)) (t3_1 hs)) ((congrArg (fun z => mct G (mpg d kp as bf sc ((s_copy fd ws sz nu s0 f t o n).2.2) tp it ws sz z mv)) (t3_2 hs)).trans (congrArg (fun z => mct G (mpg d kp as bf sc z tp it ws sz nu mv)) (t3_3 hs))).symm dX13_copy_124
          · refine lv_aload_n hx hb dX13_copy_61 rfl (lv_at hl 0 rfl) ?_
            refine lv_ldcw (v := (-1000003)) hx hb hown (hts _ q1829) dX13_copy_62 ?_
            refine fc_V (As := [.int (-1000003)]) (rest := []) hx hb hml hown hts hX hC (m_X13_finding 2 (vin_b rfl)) (lw_V q1404 q1406 qs56 q124 q1407) hdV_X13_finding ⟨rfl, rfl⟩ ⟨Nat.le_of_ble_eq_true rfl, Nat.le_of_ble_eq_true rfl⟩ (fx_recv (g := 0) (i := 0) (ci := 0) (q := (RX13, TX13, 24)) hX hC (min_ (by decide)) rfl rfl) hl.1 rfl (Nat.le_of_ble_eq_true rfl) ⟨Nat.zero_le _, Nat.zero_le _⟩ dX13_copy_65 (fun _ H locs hC => ?_)
            refine W.eq (g2 := F0 m 68 ls [.int (-1000003)]) rfl ?_
            have hs : s_copy fd ws sz nu s0 f t o n = (((-1000003), nu, p_find fd 2) : Int32 × Row × Row) := by rw [s_copy, if_pos ⟨c_2, c_4⟩, if_neg (fun z => z.elim c_5 c_6), if_neg c_7]
            exact fr_i hx hb hr hlocks hX hC mv (congrArg (fun z => some (Value.int z)) (t3_1 hs)) ((congrArg (fun z => mct G (mpg d kp as bf sc ((s_copy fd ws sz nu s0 f t o n).2.2) tp it ws sz z mv)) (t3_2 hs)).trans (congrArg (fun z => mct G (mpg d kp as bf sc z tp it ws sz nu mv)) (t3_3 hs))).symm dX13_copy_68
        · refine lv_aload_n hx hb dX13_copy_39 rfl (lv_at hl 0 rfl) ?_
          refine lv_ldc (v := (-1000006)) hx hb hown (hts _ q1694) dX13_copy_40 ?_
          refine fc_V (As := [.int (-1000006)]) (rest := []) hx hb hml hown hts hX hC (m_X13_finding 5 (vin_b rfl)) (lw_V q1404 q1406 qs56 q124 q1407) hdV_X13_finding ⟨rfl, rfl⟩ ⟨Nat.le_of_ble_eq_true rfl, Nat.le_of_ble_eq_true rfl⟩ (fx_recv (g := 0) (i := 0) (ci := 0) (q := (RX13, TX13, 24)) hX hC (min_ (by decide)) rfl rfl) hl.1 rfl (Nat.le_of_ble_eq_true rfl) ⟨Nat.zero_le _, Nat.zero_le _⟩ dX13_copy_42 (fun _ H locs hC => ?_)
          refine W.eq (g2 := F0 m 45 ls [.int (-1000006)]) rfl ?_
          have hs : s_copy fd ws sz nu s0 f t o n = (((-1000006), nu, p_find fd 5) : Int32 × Row × Row) := by rw [s_copy, if_pos ⟨c_2, c_4⟩, if_pos (Or.inr c_6)]
          exact fr_i hx hb hr hlocks hX hC mv (congrArg (fun z => some (Value.int z)) (t3_1 hs)) ((congrArg (fun z => mct G (mpg d kp as bf sc ((s_copy fd ws sz nu s0 f t o n).2.2) tp it ws sz z mv)) (t3_2 hs)).trans (congrArg (fun z => mct G (mpg d kp as bf sc z tp it ws sz nu mv)) (t3_3 hs))).symm dX13_copy_45
    · refine lv_aload_n hx hb dX13_copy_14 rfl (lv_at hl 0 rfl) ?_
      refine lv_ldc (v := (-1000001)) hx hb hown (hts _ q1403) dX13_copy_15 ?_
      refine fc_V (As := [.int (-1000001)]) (rest := []) hx hb hml hown hts hX hC (m_X13_finding 0 (vin_b rfl)) (lw_V q1404 q1406 qs56 q124 q1407) hdV_X13_finding ⟨rfl, rfl⟩ ⟨Nat.le_of_ble_eq_true rfl, Nat.le_of_ble_eq_true rfl⟩ (fx_recv (g := 0) (i := 0) (ci := 0) (q := (RX13, TX13, 24)) hX hC (min_ (by decide)) rfl rfl) hl.1 rfl (Nat.le_of_ble_eq_true rfl) ⟨Nat.zero_le _, Nat.zero_le _⟩ dX13_copy_17 (fun _ H locs hC => ?_)
      refine W.eq (g2 := F0 m 20 ls [.int (-1000001)]) rfl ?_
      have hs : s_copy fd ws sz nu s0 f t o n = (((-1000001), nu, p_find fd 0) : Int32 × Row × Row) := by rw [s_copy, if_neg (fun z => c_4 z.2)]
      exact fr_i hx hb hr hlocks hX hC mv (congrArg (fun z => some (Value.int z)) (t3_1 hs)) ((congrArg (fun z => mct G (mpg d kp as bf sc ((s_copy fd ws sz nu s0 f t o n).2.2) tp it ws sz z mv)) (t3_2 hs)).trans (congrArg (fun z => mct G (mpg d kp as bf sc z tp it ws sz nu mv)) (t3_3 hs))).symm dX13_copy_20
set_option maxRecDepth 100000 in
theorem m_X13_load {l : Launch} {G : Gm} {d kp as bf sc fd tp it ws sz nu mv : Row} (s0 : Int32) (hz : WS ws sz) : Cm l yX13_load (ws_ yX13_load cX13_load 3 (some .int)) ({ frames := 3, cells := 0, slots := 0, locals := 63 }) (mF G) [.ref (G.ad 0 0), .int s0] (mct G (mpg d kp as bf sc fd tp it ws sz nu mv)) (fun _ : Unit => some (.int ((s_load d fd ws sz nu s0).1))) (fun _ => mct G (mpg ((s_load d fd ws sz nu s0).2.1) kp as bf sc ((s_load d fd ws sz nu s0).2.2) tp it ws sz nu mv)) := by
  refine Cm.start (by decide) (Nat.le_of_ble_eq_true rfl) ?_
  intro p e s m below meth c hf hX hC ls hl
  obtain ⟨hx, hb, hr, hml, hown, hts, hlocks⟩ := hf
  have hl : lv_has ls 3 [(0, .ref (G.ad 0 0)), (1, .int s0)] := hl
  have hown : s.vm.findClass "OwlEarsModel" = some m.cls := hown
  refine lv_aload_n hx hb dX13_load_0 rfl (lv_at hl 0 rfl) ?_
  refine lv_iload_n hx hb dX13_load_1 rfl (lv_at hl 1 rfl) ?_
  refine fc_V (As := [.int s0]) (rest := []) hx hb hml hown hts hX hC (m_X13_lacks s0) (lw_V q1687 q1689 qs88 q124 q1690) hdV_X13_lacks ⟨rfl, rfl⟩ ⟨Nat.le_of_ble_eq_true rfl, Nat.le_of_ble_eq_true rfl⟩ (fx_recv (g := 0) (i := 0) (ci := 0) (q := (RX13, TX13, 24)) hX hC (min_ (by decide)) rfl rfl) hl.1 rfl (Nat.le_of_ble_eq_true rfl) ⟨Nat.zero_le _, Nat.zero_le _⟩ dX13_load_2 (fun _ H locs hC => ?_)
  refine W.eq (g2 := F0 m 5 ls [.int (p_lack ws s0)]) rfl ?_
  refine lv_if_eq (tgt := 18) hx hb dX13_load_5 (by decide) (fun c_2 => ?_) (fun c_2 => ?_)
  · refine lv_iconst (v := 0) hx hb dX13_load_18 rfl ?_
    refine lv_istore_n (lv' := [(2, .int 0), (0, .ref (G.ad 0 0)), (1, .int s0)]) hx hb dX13_load_19 rfl hl (by decide) rfl (fun ls hl => ?_)
    have h40 := hz.sz (vin_lt (vin_of (lack_0 c_2).1 4 (by decide)))
    have hs := (vin_of (lack_0 c_2).1 4 (by decide))
    have L_3 : ∀ (k3 i3 : Nat), i3 + k3 = 40 → p_lds nu (40 * ix s0) (ix (sz (ix s0))) 40 0 = p_lds nu (40 * ix s0) (ix (sz (ix s0))) k3 i3 → ∀ (H : Heap) (locs : List Loc), fC (mF G) (mct G (mpg (p_lay d nu (40 * ix s0) i3) kp as bf sc fd tp it ws sz nu mv)) s.heap H locs → ∀ ls : Array Slot, lv_has ls 3 [(2, .int (nI i3)), (0, .ref (G.ad 0 0)), (1, .int s0)] → WG p l e ({ frames := 3, cells := 0, slots := 0, locals := 63 }) s m (([.ref (G.ad 0 0), .int s0] : List Value).toArray) below meth c H locs (mF G) (fun _ : Unit => some (.int ((s_load d fd ws sz nu s0).1))) (fun _ => mct G (mpg ((s_load d fd ws sz nu s0).2.1) kp as bf sc ((s_load d fd ws sz nu s0).2.2) tp it ws sz nu mv)) (F0 m 20 ls []) := by
      intro k3
      induction k3 with
      | zero =>
        intro i3 hi3 hJ3 H locs hC ls hl
        obtain rfl : i3 = 40 := by omega
        refine lv_iload_n hx hb dX13_load_20 rfl (lv_at hl 0 rfl) ?_
        refine lv_aload_n hx hb dX13_load_21 rfl (lv_at hl 1 rfl) ?_
        refine fg_get (C := RX13) (T := TX13) (N := 24) (ci := 0) (g := 0) (i := 0) (v := .ref (G.ad 0 11)) hx hb hown hts hX hC in_X13 rfl (min_ (by decide)) rfl 21 (by decide) q1331 (fun _ h => h) rfl dX13_load_22 ?_
        refine lv_iload_n hx hb dX13_load_25 rfl (lv_at hl 2 rfl) ?_
        refine fg_iald (g := 0) (i := 11) (t0 := 0) (v := sz (ix s0)) hx hb hX hC (min_ (by decide)) rfl rfl hs rfl dX13_load_26 ?_
        refine fj_ge (tgt := 81) hx hb dX13_load_27 (by decide) (fun _ => ?_) (fun z_4 => absurd z_4 (fun z => by have := (ltix (i := 40) (by decide)).mp z; omega))
        refine lv_iload_n hx hb dX13_load_81 rfl (lv_at hl 0 rfl) ?_
        have hs : s_load d fd ws sz nu s0 = ((nI 40, p_lay d nu (40 * ix s0) 40, fd) : Int32 × Row × Row) := by have hz9 : p_lds nu (40 * ix s0) (ix (sz (ix s0))) 40 0 = 40 := hJ3; rw [s_load, if_pos c_2, hz9]
        exact fr_i hx hb hr hlocks hX hC () (congrArg (fun z => some (Value.int z)) (t3_1 hs)) ((congrArg (fun z => mct G (mpg z kp as bf sc ((s_load d fd ws sz nu s0).2.2) tp it ws sz nu mv)) (t3_2 hs)).trans (congrArg (fun z => mct G (mpg (p_lay d nu (40 * ix s0) 40) kp as bf sc z tp it ws sz nu mv)) (t3_3 hs))).symm dX13_load_82
      | succ k3 ih3 =>
        intro i3 hi3 hJ3 H locs hC ls hl
        refine lv_iload_n hx hb dX13_load_20 rfl (lv_at hl 0 rfl) ?_
        refine lv_aload_n hx hb dX13_load_21 rfl (lv_at hl 1 rfl) ?_
        refine fg_get (C := RX13) (T := TX13) (N := 24) (ci := 0) (g := 0) (i := 0) (v := .ref (G.ad 0 11)) hx hb hown hts hX hC in_X13 rfl (min_ (by decide)) rfl 21 (by decide) q1331 (fun _ h => h) rfl dX13_load_22 ?_
        refine lv_iload_n hx hb dX13_load_25 rfl (lv_at hl 2 rfl) ?_
        refine fg_iald (g := 0) (i := 11) (t0 := 0) (v := sz (ix s0)) hx hb hX hC (min_ (by decide)) rfl rfl hs rfl dX13_load_26 ?_
        refine fj_ge (tgt := 81) hx hb dX13_load_27 (by decide) (fun c_5 => ?_) (fun c_5 => ?_)
        · refine lv_iload_n hx hb dX13_load_81 rfl (lv_at hl 0 rfl) ?_
          have hs : s_load d fd ws sz nu s0 = ((nI i3, p_lay d nu (40 * ix s0) i3, fd) : Int32 × Row × Row) := by have hz9 : p_lds nu (40 * ix s0) (ix (sz (ix s0))) 40 0 = i3 := hJ3.trans (lds_f (fun z => c_5 ((ltix (by omega)).mpr z.1))); rw [s_load, if_pos c_2, hz9]
          exact fr_i hx hb hr hlocks hX hC () (congrArg (fun z => some (Value.int z)) (t3_1 hs)) ((congrArg (fun z => mct G (mpg z kp as bf sc ((s_load d fd ws sz nu s0).2.2) tp it ws sz nu mv)) (t3_2 hs)).trans (congrArg (fun z => mct G (mpg (p_lay d nu (40 * ix s0) i3) kp as bf sc z tp it ws sz nu mv)) (t3_3 hs))).symm dX13_load_82
        · refine lv_iload_n hx hb dX13_load_30 rfl (lv_at hl 0 rfl) ?_
          refine fc_S (As := [.int (nI i3)]) (rest := []) hx hb hml hown hts hX hC (m_X13_isCell (nI i3)) (lw_S q1387 q1388 q124 q1389) hdS_X13_isCell ⟨rfl, rfl⟩ ⟨Nat.le_of_ble_eq_true rfl, Nat.le_of_ble_eq_true rfl⟩ hl.1 rfl (Nat.le_of_ble_eq_true rfl) ⟨Nat.zero_le _, Nat.zero_le _⟩ dX13_load_31 (fun _ H locs hC => ?_)
          refine W.eq (g2 := F0 m 34 ls [.int (b2i (p_in (nI i3) 0 35))]) rfl ?_
          refine fb_eq (tgt := 81) hx hb dX13_load_34 (by decide) (fun c_7 => ?_) (fun c_7 => ?_)
          · refine lv_iload_n hx hb dX13_load_81 rfl (lv_at hl 0 rfl) ?_
            have hs : s_load d fd ws sz nu s0 = ((nI i3, p_lay d nu (40 * ix s0) i3, fd) : Int32 × Row × Row) := by have hz9 : p_lds nu (40 * ix s0) (ix (sz (ix s0))) 40 0 = i3 := hJ3.trans (lds_f (fun z => c_7 ((in35 (by omega)).mpr z.2.1))); rw [s_load, if_pos c_2, hz9]
            exact fr_i hx hb hr hlocks hX hC () (congrArg (fun z => some (Value.int z)) (t3_1 hs)) ((congrArg (fun z => mct G (mpg z kp as bf sc ((s_load d fd ws sz nu s0).2.2) tp it ws sz nu mv)) (t3_2 hs)).trans (congrArg (fun z => mct G (mpg (p_lay d nu (40 * ix s0) i3) kp as bf sc z tp it ws sz nu mv)) (t3_3 hs))).symm dX13_load_82
          · refine lv_iconst (v := 0) hx hb dX13_load_37 rfl ?_
            refine lv_aload_n hx hb dX13_load_38 rfl (lv_at hl 1 rfl) ?_
            refine fg_get (C := RX13) (T := TX13) (N := 24) (ci := 0) (g := 0) (i := 0) (v := .ref (G.ad 0 12)) hx hb hown hts hX hC in_X13 rfl (min_ (by decide)) rfl 22 (by decide) q1332 (fun _ h => h) rfl dX13_load_39 ?_
            refine lv_bipush (v := 40) hx hb dX13_load_42 rfl ?_
            refine lv_iload_n hx hb dX13_load_44 rfl (lv_at hl 2 rfl) ?_
            refine lv_imul hx hb dX13_load_45 ?_
            refine lv_iload_n hx hb dX13_load_46 rfl (lv_at hl 0 rfl) ?_
            refine lv_iadd hx hb dX13_load_47 ?_
            refine fg_iald (g := 0) (i := 12) (t0 := 0) (v := nu (40 * ix s0 + i3)) hx hb hX hC (min_ (by decide)) rfl rfl (vins hs (vp_in_nI (show i3 < 40 by omega) (by decide)) (by decide)) (congrArg nu ((ixs hs (vp_in_nI (show i3 < 40 by omega) (by decide)) (by decide)).trans (congrArg (fun z => 40 * ix s0 + z) (nI_clamp (by omega))))) dX13_load_48 ?_
            refine fc_S (As := [.int 0, .int (nu (40 * ix s0 + i3))]) (rest := []) hx hb hml hown hts hX hC (m_X13_mayLie 0 (nu (40 * ix s0 + i3))) (lw_S q1393 q1394 q124 q1395) hdS_X13_mayLie ⟨rfl, rfl⟩ ⟨Nat.le_of_ble_eq_true rfl, Nat.le_of_ble_eq_true rfl⟩ hl.1 rfl (Nat.le_of_ble_eq_true rfl) ⟨Nat.zero_le _, Nat.zero_le _⟩ dX13_load_49 (fun _ H locs hC => ?_)
            refine W.eq (g2 := F0 m 52 ls [.int (b2i (p_mayLie 0 (nu (40 * ix s0 + i3))))]) rfl ?_
            refine fb_eq (tgt := 81) hx hb dX13_load_52 (by decide) (fun c_9 => ?_) (fun c_9 => ?_)
            · refine lv_iload_n hx hb dX13_load_81 rfl (lv_at hl 0 rfl) ?_
              have hs : s_load d fd ws sz nu s0 = ((nI i3, p_lay d nu (40 * ix s0) i3, fd) : Int32 × Row × Row) := by have hz9 : p_lds nu (40 * ix s0) (ix (sz (ix s0))) 40 0 = i3 := hJ3.trans (lds_f (fun z => c_9 (ml0.mpr z.2.2))); rw [s_load, if_pos c_2, hz9]
              exact fr_i hx hb hr hlocks hX hC () (congrArg (fun z => some (Value.int z)) (t3_1 hs)) ((congrArg (fun z => mct G (mpg z kp as bf sc ((s_load d fd ws sz nu s0).2.2) tp it ws sz nu mv)) (t3_2 hs)).trans (congrArg (fun z => mct G (mpg (p_lay d nu (40 * ix s0) i3) kp as bf sc z tp it ws sz nu mv)) (t3_3 hs))).symm dX13_load_82
            · refine lv_aload_n hx hb dX13_load_55 rfl (lv_at hl 1 rfl) ?_
              refine fg_get (C := RX13) (T := TX13) (N := 24) (ci := 0) (g := 0) (i := 0) (v := .ref (G.ad 0 1)) hx hb hown hts hX hC in_X13 rfl (min_ (by decide)) rfl 0 (by decide) q1310 (fun _ h => h) rfl dX13_load_56 ?_
              refine lv_bipush (v := 20) hx hb dX13_load_59 rfl ?_
              refine lv_iload_n hx hb dX13_load_61 rfl (lv_at hl 0 rfl) ?_
              refine lv_iadd hx hb dX13_load_62 ?_
              refine lv_aload_n hx hb dX13_load_63 rfl (lv_at hl 1 rfl) ?_
              refine fg_get (C := RX13) (T := TX13) (N := 24) (ci := 0) (g := 0) (i := 0) (v := .ref (G.ad 0 12)) hx hb hown hts hX hC in_X13 rfl (min_ (by decide)) rfl 22 (by decide) q1332 (fun _ h => h) rfl dX13_load_64 ?_
              refine lv_bipush (v := 40) hx hb dX13_load_67 rfl ?_
              refine lv_iload_n hx hb dX13_load_69 rfl (lv_at hl 2 rfl) ?_
              refine lv_imul hx hb dX13_load_70 ?_
              refine lv_iload_n hx hb dX13_load_71 rfl (lv_at hl 0 rfl) ?_
              refine lv_iadd hx hb dX13_load_72 ?_
              refine fg_iald (g := 0) (i := 12) (t0 := 0) (v := nu (40 * ix s0 + i3)) hx hb hX hC (min_ (by decide)) rfl rfl (vins hs (vp_in_nI (show i3 < 40 by omega) (by decide)) (by decide)) (congrArg nu ((ixs hs (vp_in_nI (show i3 < 40 by omega) (by decide)) (by decide)).trans (congrArg (fun z => 40 * ix s0 + z) (nI_clamp (by omega))))) dX13_load_73 ?_
              refine fg_iast (g := 0) (i := 1) (t0 := 0) hx hb hX hC (min_ (by decide)) rfl rfl (vinp 20 (vp_in_nI ((in35 (by omega)).mp c_7) (by decide)) (by decide) (by decide)) (mct G (mpg (upd (p_lay d nu (40 * ix s0) i3) (20 + i3) (nu (40 * ix s0 + i3))) kp as bf sc fd tp it ws sz nu mv)) (mu mp1 (mst ((congrArg ix (nI_add 20 i3)).trans (nI_clamp (by omega))))) dX13_load_74 (fun H locs hC => ?_)
              refine lv_iinc (v := nI (i3 + 1)) (lv' := [(2, .int (nI (i3 + 1))), (0, .ref (G.ad 0 0)), (1, .int s0)]) hx hb dX13_load_75 hl (k := 0) rfl (nI_1 _) (by decide) rfl (fun ls hl => ?_)
              refine lv_goto (tgt := 20) hx hb dX13_load_78 (by decide) ?_
              have hcn := lds_t (nu := nu) (b := 40 * ix s0) (k := k3) ⟨(ltix (by omega)).mp c_5, (in35 (by omega)).mp c_7, ml0.mp c_9⟩
              have hC := (congrArg (fun z => fC (mF G) (mct G (mpg z kp as bf sc fd tp it ws sz nu mv)) s.heap _ _) (p_lay_s d nu (40 * ix s0) i3)).mp hC
              exact ih3 (i3 + 1) (by omega) (hJ3.trans hcn) _ _ hC ls (lv_sub hl [0, 1, 2] rfl)
    have hC := (congrArg (fun z => fC (mF G) (mct G (mpg z kp as bf sc fd tp it ws sz nu mv)) s.heap _ _) (p_lay_0 d nu (40 * ix s0))).mp hC
    exact L_3 40 0 rfl rfl _ _ hC ls (lv_sub hl [0, 1, 2] rfl)
  · refine lv_aload_n hx hb dX13_load_8 rfl (lv_at hl 0 rfl) ?_
    refine lv_aload_n hx hb dX13_load_9 rfl (lv_at hl 0 rfl) ?_
    refine lv_iload_n hx hb dX13_load_10 rfl (lv_at hl 1 rfl) ?_
    refine fc_V (As := [.int s0]) (rest := [.ref (G.ad 0 0)]) hx hb hml hown hts hX hC (m_X13_lacks s0) (lw_V q1687 q1689 qs88 q124 q1690) hdV_X13_lacks ⟨rfl, rfl⟩ ⟨Nat.le_of_ble_eq_true rfl, Nat.le_of_ble_eq_true rfl⟩ (fx_recv (g := 0) (i := 0) (ci := 0) (q := (RX13, TX13, 24)) hX hC (min_ (by decide)) rfl rfl) hl.1 rfl (Nat.le_of_ble_eq_true rfl) ⟨Nat.zero_le _, Nat.zero_le _⟩ dX13_load_11 (fun _ H locs hC => ?_)
    refine W.eq (g2 := F0 m 14 ls [.int (p_lack ws s0), .ref (G.ad 0 0)]) rfl ?_
    refine fc_V (As := [.int (p_lack ws s0)]) (rest := []) hx hb hml hown hts hX hC (m_X13_findingV (p_lack ws s0) (lack_n c_2)) (lw_V q1404 q1406 qs56 q124 q1407) hdV_X13_finding ⟨rfl, rfl⟩ ⟨Nat.le_of_ble_eq_true rfl, Nat.le_of_ble_eq_true rfl⟩ (fx_recv (g := 0) (i := 0) (ci := 0) (q := (RX13, TX13, 24)) hX hC (min_ (by decide)) rfl rfl) hl.1 rfl (Nat.le_of_ble_eq_true rfl) ⟨Nat.zero_le _, Nat.zero_le _⟩ dX13_load_14 (fun _ H locs hC => ?_)
    refine W.eq (g2 := F0 m 17 ls [.int (p_lack ws s0)]) rfl ?_
    have hs : s_load d fd ws sz nu s0 = ((p_lack ws s0, d, p_fnd fd (p_lack ws s0)) : Int32 × Row × Row) := by rw [s_load, if_neg c_2]
    exact fr_i hx hb hr hlocks hX hC () (congrArg (fun z => some (Value.int z)) (t3_1 hs)) ((congrArg (fun z => mct G (mpg z kp as bf sc ((s_load d fd ws sz nu s0).2.2) tp it ws sz nu mv)) (t3_2 hs)).trans (congrArg (fun z => mct G (mpg d kp as bf sc z tp it ws sz nu mv)) (t3_3 hs))).symm dX13_load_17
set_option maxRecDepth 100000 in
theorem m_X13_judge {l : Launch} {G : Gm} {d kp as bf sc fd tp it ws sz nu mv : Row} (hw : WF d) (s0 : Int32) (hz : WS ws sz) : Cm l yX13_judge (ws_ yX13_judge cX13_judge 3 (some .int)) ({ frames := 3, cells := 0, slots := 0, locals := 63 }) (mF G) [.ref (G.ad 0 0), .int s0] (mct G (mpg d kp as bf sc fd tp it ws sz nu mv)) (fun u : Row => some (.int ((s_judge d fd ws sz nu s0).1))) (fun u => mct G (mpg d kp u bf sc ((s_judge d fd ws sz nu s0).2) tp it ws sz nu mv)) := by
  refine Cm.start (by decide) (Nat.le_of_ble_eq_true rfl) ?_
  intro p e s m below meth c hf hX hC ls hl
  obtain ⟨hx, hb, hr, hml, hown, hts, hlocks⟩ := hf
  have hl : lv_has ls 3 [(0, .ref (G.ad 0 0)), (1, .int s0)] := hl
  have hown : s.vm.findClass "OwlEarsModel" = some m.cls := hown
  refine lv_aload_n hx hb dX13_judge_0 rfl (lv_at hl 0 rfl) ?_
  refine lv_iload_n hx hb dX13_judge_1 rfl (lv_at hl 1 rfl) ?_
  refine fc_V (As := [.int s0]) (rest := []) hx hb hml hown hts hX hC (m_X13_lacks s0) (lw_V q1687 q1689 qs88 q124 q1690) hdV_X13_lacks ⟨rfl, rfl⟩ ⟨Nat.le_of_ble_eq_true rfl, Nat.le_of_ble_eq_true rfl⟩ (fx_recv (g := 0) (i := 0) (ci := 0) (q := (RX13, TX13, 24)) hX hC (min_ (by decide)) rfl rfl) hl.1 rfl (Nat.le_of_ble_eq_true rfl) ⟨Nat.zero_le _, Nat.zero_le _⟩ dX13_judge_2 (fun _ H locs hC => ?_)
  refine W.eq (g2 := F0 m 5 ls [.int (p_lack ws s0)]) rfl ?_
  refine lv_if_eq (tgt := 18) hx hb dX13_judge_5 (by decide) (fun c_2 => ?_) (fun c_2 => ?_)
  · refine lv_aload_n hx hb dX13_judge_18 rfl (lv_at hl 0 rfl) ?_
    refine fg_get (C := RX13) (T := TX13) (N := 24) (ci := 0) (g := 0) (i := 0) (v := .ref (G.ad 0 1)) hx hb hown hts hX hC in_X13 rfl (min_ (by decide)) rfl 0 (by decide) q1310 (fun _ h => h) rfl dX13_judge_19 ?_
    refine lv_aload_n hx hb dX13_judge_22 rfl (lv_at hl 0 rfl) ?_
    refine fg_get (C := RX13) (T := TX13) (N := 24) (ci := 0) (g := 0) (i := 0) (v := .ref (G.ad 0 3)) hx hb hown hts hX hC in_X13 rfl (min_ (by decide)) rfl 2 (by decide) q1312 (fun _ h => h) rfl dX13_judge_23 ?_
    refine fc_S (As := [.ref (G.ad 0 1), .ref (G.ad 0 3)]) (rest := []) hx hb hml hown hts hX hC (m_X13_copyRow (g1 := 0) (i1 := 1) (g2 := 0) (i2 := 3) (t0 := 0) (ctn := mct G (mpg d kp d bf sc fd tp it ws sz nu mv)) (min_ (by decide)) rfl (min_ (by decide)) rfl rfl (by decide) (mu mp3 (fun _ _ h => h))) (lw_S q1491 q1492 q124 q1493) hdS_X13_copyRow ⟨rfl, rfl⟩ ⟨Nat.le_of_ble_eq_true rfl, Nat.le_of_ble_eq_true rfl⟩ hl.1 rfl (Nat.le_of_ble_eq_true rfl) ⟨Nat.zero_le _, Nat.zero_le _⟩ dX13_judge_26 (fun _ H locs hC => ?_)
    refine W.eq (g2 := F0 m 29 ls []) rfl ?_
    refine lv_iconst (v := 0) hx hb dX13_judge_29 rfl ?_
    refine lv_istore_n (lv' := [(2, .int 0), (0, .ref (G.ad 0 0)), (1, .int s0)]) hx hb dX13_judge_30 rfl hl (by decide) rfl (fun ls hl => ?_)
    have h40 := hz.sz (vin_lt (vin_of (lack_0 c_2).1 4 (by decide)))
    have hs := (vin_of (lack_0 c_2).1 4 (by decide))
    have L_3 : ∀ (k3 i3 : Nat), i3 + k3 = 40 → p_rgt d nu (40 * ix s0) (ix (sz (ix s0))) 40 0 = p_rgt d nu (40 * ix s0) (ix (sz (ix s0))) k3 i3 → ∀ (H : Heap) (locs : List Loc), fC (mF G) (mct G (mpg (p_ticks i3 d) kp d bf sc fd tp it ws sz nu mv)) s.heap H locs → ∀ ls : Array Slot, lv_has ls 3 [(2, .int (nI i3)), (0, .ref (G.ad 0 0)), (1, .int s0)] → WG p l e ({ frames := 3, cells := 0, slots := 0, locals := 63 }) s m (([.ref (G.ad 0 0), .int s0] : List Value).toArray) below meth c H locs (mF G) (fun u : Row => some (.int ((s_judge d fd ws sz nu s0).1))) (fun u => mct G (mpg d kp u bf sc ((s_judge d fd ws sz nu s0).2) tp it ws sz nu mv)) (F0 m 31 ls []) := by
      intro k3
      induction k3 with
      | zero =>
        intro i3 hi3 hJ3 H locs hC ls hl
        obtain rfl : i3 = 40 := by omega
        refine lv_iload_n hx hb dX13_judge_31 rfl (lv_at hl 0 rfl) ?_
        refine lv_aload_n hx hb dX13_judge_32 rfl (lv_at hl 1 rfl) ?_
        refine fg_get (C := RX13) (T := TX13) (N := 24) (ci := 0) (g := 0) (i := 0) (v := .ref (G.ad 0 11)) hx hb hown hts hX hC in_X13 rfl (min_ (by decide)) rfl 21 (by decide) q1331 (fun _ h => h) rfl dX13_judge_33 ?_
        refine lv_iload_n hx hb dX13_judge_36 rfl (lv_at hl 2 rfl) ?_
        refine fg_iald (g := 0) (i := 11) (t0 := 0) (v := sz (ix s0)) hx hb hX hC (min_ (by decide)) rfl rfl hs rfl dX13_judge_37 ?_
        refine fj_ge (tgt := 71) hx hb dX13_judge_38 (by decide) (fun _ => ?_) (fun z_4 => absurd z_4 (fun z => by have := (ltix (i := 40) (by decide)).mp z; omega))
        refine lv_aload_n hx hb dX13_judge_71 rfl (lv_at hl 1 rfl) ?_
        refine lv_iload_n hx hb dX13_judge_72 rfl (lv_at hl 0 rfl) ?_
        refine lv_aload_n hx hb dX13_judge_73 rfl (lv_at hl 1 rfl) ?_
        refine fg_get (C := RX13) (T := TX13) (N := 24) (ci := 0) (g := 0) (i := 0) (v := .ref (G.ad 0 11)) hx hb hown hts hX hC in_X13 rfl (min_ (by decide)) rfl 21 (by decide) q1331 (fun _ h => h) rfl dX13_judge_74 ?_
        refine lv_iload_n hx hb dX13_judge_77 rfl (lv_at hl 2 rfl) ?_
        refine fg_iald (g := 0) (i := 11) (t0 := 0) (v := sz (ix s0)) hx hb hX hC (min_ (by decide)) rfl rfl hs rfl dX13_judge_78 ?_
        refine lv_icmp_ne (tgt := 86) hx hb dX13_judge_79 (by decide) (fun c_5 => ?_) (fun c_5 => ?_)
        · refine lv_iconst (v := 1) hx hb dX13_judge_86 rfl ?_
          refine lv_iload_n hx hb dX13_judge_87 rfl (lv_at hl 0 rfl) ?_
          refine lv_iadd hx hb dX13_judge_88 ?_
          refine fc_V (As := [.int (1 + (nI 40))]) (rest := []) hx hb hml hown hts hX hC (m_X13_putBack (1 + (nI 40))) (lw_V q1578 q1580 qs79 q124 q1581) hdV_X13_putBack ⟨rfl, rfl⟩ ⟨Nat.le_of_ble_eq_true rfl, Nat.le_of_ble_eq_true rfl⟩ (fx_recv (g := 0) (i := 0) (ci := 0) (q := (RX13, TX13, 24)) hX hC (min_ (by decide)) rfl rfl) hl.1 rfl (Nat.le_of_ble_eq_true rfl) ⟨Nat.zero_le _, Nat.zero_le _⟩ dX13_judge_89 (fun _ H locs hC => ?_)
          refine W.eq (g2 := F0 m 92 ls [.int (1 + (nI 40))]) rfl ?_
          have hs : s_judge d fd ws sz nu s0 = (((1 + (nI 40)), fd) : Int32 × Row) := by have hz9 : p_rgt d nu (40 * ix s0) (ix (sz (ix s0))) 40 0 = 40 := hJ3; rw [s_judge, if_pos c_2, hz9]; rw [if_neg (fun z => c_5 (by rw [z]; exact nI_ix (vin_nn (hz _ (vin_lt hs)).1)))]
          exact fr_i hx hb hr hlocks hX hC d (congrArg (fun z => some (Value.int z)) (t2_1 hs)) (congrArg (fun z => mct G (mpg d kp d bf sc z tp it ws sz nu mv)) (t2_2 hs)).symm dX13_judge_92
        · refine lv_iconst (v := 0) hx hb dX13_judge_82 rfl ?_
          refine lv_goto (tgt := 89) hx hb dX13_judge_83 (by decide) ?_
          refine fc_V (As := [.int 0]) (rest := []) hx hb hml hown hts hX hC (m_X13_putBack 0) (lw_V q1578 q1580 qs79 q124 q1581) hdV_X13_putBack ⟨rfl, rfl⟩ ⟨Nat.le_of_ble_eq_true rfl, Nat.le_of_ble_eq_true rfl⟩ (fx_recv (g := 0) (i := 0) (ci := 0) (q := (RX13, TX13, 24)) hX hC (min_ (by decide)) rfl rfl) hl.1 rfl (Nat.le_of_ble_eq_true rfl) ⟨Nat.zero_le _, Nat.zero_le _⟩ dX13_judge_89 (fun _ H locs hC => ?_)
          refine W.eq (g2 := F0 m 92 ls [.int 0]) rfl ?_
          have hs : s_judge d fd ws sz nu s0 = ((0, fd) : Int32 × Row) := by have hz9 : p_rgt d nu (40 * ix s0) (ix (sz (ix s0))) 40 0 = 40 := hJ3; rw [s_judge, if_pos c_2, hz9]; rw [if_pos (by rw [← c_5]; exact (ix_nI (by omega)).symm)]
          exact fr_i hx hb hr hlocks hX hC d (congrArg (fun z => some (Value.int z)) (t2_1 hs)) (congrArg (fun z => mct G (mpg d kp d bf sc z tp it ws sz nu mv)) (t2_2 hs)).symm dX13_judge_92
      | succ k3 ih3 =>
        intro i3 hi3 hJ3 H locs hC ls hl
        refine lv_iload_n hx hb dX13_judge_31 rfl (lv_at hl 0 rfl) ?_
        refine lv_aload_n hx hb dX13_judge_32 rfl (lv_at hl 1 rfl) ?_
        refine fg_get (C := RX13) (T := TX13) (N := 24) (ci := 0) (g := 0) (i := 0) (v := .ref (G.ad 0 11)) hx hb hown hts hX hC in_X13 rfl (min_ (by decide)) rfl 21 (by decide) q1331 (fun _ h => h) rfl dX13_judge_33 ?_
        refine lv_iload_n hx hb dX13_judge_36 rfl (lv_at hl 2 rfl) ?_
        refine fg_iald (g := 0) (i := 11) (t0 := 0) (v := sz (ix s0)) hx hb hX hC (min_ (by decide)) rfl rfl hs rfl dX13_judge_37 ?_
        refine fj_ge (tgt := 71) hx hb dX13_judge_38 (by decide) (fun c_8 => ?_) (fun c_8 => ?_)
        · refine lv_aload_n hx hb dX13_judge_71 rfl (lv_at hl 1 rfl) ?_
          refine lv_iload_n hx hb dX13_judge_72 rfl (lv_at hl 0 rfl) ?_
          refine lv_aload_n hx hb dX13_judge_73 rfl (lv_at hl 1 rfl) ?_
          refine fg_get (C := RX13) (T := TX13) (N := 24) (ci := 0) (g := 0) (i := 0) (v := .ref (G.ad 0 11)) hx hb hown hts hX hC in_X13 rfl (min_ (by decide)) rfl 21 (by decide) q1331 (fun _ h => h) rfl dX13_judge_74 ?_
          refine lv_iload_n hx hb dX13_judge_77 rfl (lv_at hl 2 rfl) ?_
          refine fg_iald (g := 0) (i := 11) (t0 := 0) (v := sz (ix s0)) hx hb hX hC (min_ (by decide)) rfl rfl hs rfl dX13_judge_78 ?_
          refine lv_icmp_ne (tgt := 86) hx hb dX13_judge_79 (by decide) (fun c_9 => ?_) (fun c_9 => ?_)
          · refine lv_iconst (v := 1) hx hb dX13_judge_86 rfl ?_
            refine lv_iload_n hx hb dX13_judge_87 rfl (lv_at hl 0 rfl) ?_
            refine lv_iadd hx hb dX13_judge_88 ?_
            refine fc_V (As := [.int (1 + (nI i3))]) (rest := []) hx hb hml hown hts hX hC (m_X13_putBack (1 + (nI i3))) (lw_V q1578 q1580 qs79 q124 q1581) hdV_X13_putBack ⟨rfl, rfl⟩ ⟨Nat.le_of_ble_eq_true rfl, Nat.le_of_ble_eq_true rfl⟩ (fx_recv (g := 0) (i := 0) (ci := 0) (q := (RX13, TX13, 24)) hX hC (min_ (by decide)) rfl rfl) hl.1 rfl (Nat.le_of_ble_eq_true rfl) ⟨Nat.zero_le _, Nat.zero_le _⟩ dX13_judge_89 (fun _ H locs hC => ?_)
            refine W.eq (g2 := F0 m 92 ls [.int (1 + (nI i3))]) rfl ?_
            have hs : s_judge d fd ws sz nu s0 = (((1 + (nI i3)), fd) : Int32 × Row) := by have hz9 : p_rgt d nu (40 * ix s0) (ix (sz (ix s0))) 40 0 = i3 := hJ3.trans (rgt_f (fun z => c_8 ((ltix (by omega)).mpr z.1))); rw [s_judge, if_pos c_2, hz9]; rw [if_neg (fun z => c_9 (by rw [z]; exact nI_ix (vin_nn (hz _ (vin_lt hs)).1)))]
            exact fr_i hx hb hr hlocks hX hC d (congrArg (fun z => some (Value.int z)) (t2_1 hs)) (congrArg (fun z => mct G (mpg d kp d bf sc z tp it ws sz nu mv)) (t2_2 hs)).symm dX13_judge_92
          · refine lv_iconst (v := 0) hx hb dX13_judge_82 rfl ?_
            refine lv_goto (tgt := 89) hx hb dX13_judge_83 (by decide) ?_
            refine fc_V (As := [.int 0]) (rest := []) hx hb hml hown hts hX hC (m_X13_putBack 0) (lw_V q1578 q1580 qs79 q124 q1581) hdV_X13_putBack ⟨rfl, rfl⟩ ⟨Nat.le_of_ble_eq_true rfl, Nat.le_of_ble_eq_true rfl⟩ (fx_recv (g := 0) (i := 0) (ci := 0) (q := (RX13, TX13, 24)) hX hC (min_ (by decide)) rfl rfl) hl.1 rfl (Nat.le_of_ble_eq_true rfl) ⟨Nat.zero_le _, Nat.zero_le _⟩ dX13_judge_89 (fun _ H locs hC => ?_)
            refine W.eq (g2 := F0 m 92 ls [.int 0]) rfl ?_
            have hs : s_judge d fd ws sz nu s0 = ((0, fd) : Int32 × Row) := by have hz9 : p_rgt d nu (40 * ix s0) (ix (sz (ix s0))) 40 0 = i3 := hJ3.trans (rgt_f (fun z => c_8 ((ltix (by omega)).mpr z.1))); rw [s_judge, if_pos c_2, hz9]; rw [if_pos (by rw [← c_9]; exact (ix_nI (by omega)).symm)]
            exact fr_i hx hb hr hlocks hX hC d (congrArg (fun z => some (Value.int z)) (t2_1 hs)) (congrArg (fun z => mct G (mpg d kp d bf sc z tp it ws sz nu mv)) (t2_2 hs)).symm dX13_judge_92
        · refine lv_aload_n hx hb dX13_judge_41 rfl (lv_at hl 1 rfl) ?_
          refine fg_get (C := RX13) (T := TX13) (N := 24) (ci := 0) (g := 0) (i := 0) (v := .ref (G.ad 0 12)) hx hb hown hts hX hC in_X13 rfl (min_ (by decide)) rfl 22 (by decide) q1332 (fun _ h => h) rfl dX13_judge_42 ?_
          refine lv_bipush (v := 40) hx hb dX13_judge_45 rfl ?_
          refine lv_iload_n hx hb dX13_judge_47 rfl (lv_at hl 2 rfl) ?_
          refine lv_imul hx hb dX13_judge_48 ?_
          refine lv_iload_n hx hb dX13_judge_49 rfl (lv_at hl 0 rfl) ?_
          refine lv_iadd hx hb dX13_judge_50 ?_
          refine fg_iald (g := 0) (i := 12) (t0 := 0) (v := nu (40 * ix s0 + i3)) hx hb hX hC (min_ (by decide)) rfl rfl (vins hs (vp_in_nI (show i3 < 40 by omega) (by decide)) (by decide)) (congrArg nu ((ixs hs (vp_in_nI (show i3 < 40 by omega) (by decide)) (by decide)).trans (congrArg (fun z => 40 * ix s0 + z) (nI_clamp (by omega))))) dX13_judge_51 ?_
          refine lv_aload_n hx hb dX13_judge_52 rfl (lv_at hl 1 rfl) ?_
          refine fg_get (C := RX13) (T := TX13) (N := 24) (ci := 0) (g := 0) (i := 0) (v := .ref (G.ad 0 1)) hx hb hown hts hX hC in_X13 rfl (min_ (by decide)) rfl 0 (by decide) q1310 (fun _ h => h) rfl dX13_judge_53 ?_
          refine lv_iconst (v := 3) hx hb dX13_judge_56 rfl ?_
          refine fg_iald (g := 0) (i := 1) (t0 := 0) (v := (p_ticks i3 d) 3) hx hb hX hC (min_ (by decide)) rfl rfl (vin_b rfl) rfl dX13_judge_57 ?_
          refine lv_icmp_ne (tgt := 71) hx hb dX13_judge_58 (by decide) (fun c_12 => ?_) (fun c_12 => ?_)
          · refine lv_aload_n hx hb dX13_judge_71 rfl (lv_at hl 1 rfl) ?_
            refine lv_iload_n hx hb dX13_judge_72 rfl (lv_at hl 0 rfl) ?_
            refine lv_aload_n hx hb dX13_judge_73 rfl (lv_at hl 1 rfl) ?_
            refine fg_get (C := RX13) (T := TX13) (N := 24) (ci := 0) (g := 0) (i := 0) (v := .ref (G.ad 0 11)) hx hb hown hts hX hC in_X13 rfl (min_ (by decide)) rfl 21 (by decide) q1331 (fun _ h => h) rfl dX13_judge_74 ?_
            refine lv_iload_n hx hb dX13_judge_77 rfl (lv_at hl 2 rfl) ?_
            refine fg_iald (g := 0) (i := 11) (t0 := 0) (v := sz (ix s0)) hx hb hX hC (min_ (by decide)) rfl rfl hs rfl dX13_judge_78 ?_
            refine lv_icmp_ne (tgt := 86) hx hb dX13_judge_79 (by decide) (fun c_13 => ?_) (fun c_13 => ?_)
            · refine lv_iconst (v := 1) hx hb dX13_judge_86 rfl ?_
              refine lv_iload_n hx hb dX13_judge_87 rfl (lv_at hl 0 rfl) ?_
              refine lv_iadd hx hb dX13_judge_88 ?_
              refine fc_V (As := [.int (1 + (nI i3))]) (rest := []) hx hb hml hown hts hX hC (m_X13_putBack (1 + (nI i3))) (lw_V q1578 q1580 qs79 q124 q1581) hdV_X13_putBack ⟨rfl, rfl⟩ ⟨Nat.le_of_ble_eq_true rfl, Nat.le_of_ble_eq_true rfl⟩ (fx_recv (g := 0) (i := 0) (ci := 0) (q := (RX13, TX13, 24)) hX hC (min_ (by decide)) rfl rfl) hl.1 rfl (Nat.le_of_ble_eq_true rfl) ⟨Nat.zero_le _, Nat.zero_le _⟩ dX13_judge_89 (fun _ H locs hC => ?_)
              refine W.eq (g2 := F0 m 92 ls [.int (1 + (nI i3))]) rfl ?_
              have hs : s_judge d fd ws sz nu s0 = (((1 + (nI i3)), fd) : Int32 × Row) := by have hz9 : p_rgt d nu (40 * ix s0) (ix (sz (ix s0))) 40 0 = i3 := hJ3.trans (rgt_f (fun z => c_12 z.2)); rw [s_judge, if_pos c_2, hz9]; rw [if_neg (fun z => c_13 (by rw [z]; exact nI_ix (vin_nn (hz _ (vin_lt hs)).1)))]
              exact fr_i hx hb hr hlocks hX hC d (congrArg (fun z => some (Value.int z)) (t2_1 hs)) (congrArg (fun z => mct G (mpg d kp d bf sc z tp it ws sz nu mv)) (t2_2 hs)).symm dX13_judge_92
            · refine lv_iconst (v := 0) hx hb dX13_judge_82 rfl ?_
              refine lv_goto (tgt := 89) hx hb dX13_judge_83 (by decide) ?_
              refine fc_V (As := [.int 0]) (rest := []) hx hb hml hown hts hX hC (m_X13_putBack 0) (lw_V q1578 q1580 qs79 q124 q1581) hdV_X13_putBack ⟨rfl, rfl⟩ ⟨Nat.le_of_ble_eq_true rfl, Nat.le_of_ble_eq_true rfl⟩ (fx_recv (g := 0) (i := 0) (ci := 0) (q := (RX13, TX13, 24)) hX hC (min_ (by decide)) rfl rfl) hl.1 rfl (Nat.le_of_ble_eq_true rfl) ⟨Nat.zero_le _, Nat.zero_le _⟩ dX13_judge_89 (fun _ H locs hC => ?_)
              refine W.eq (g2 := F0 m 92 ls [.int 0]) rfl ?_
              have hs : s_judge d fd ws sz nu s0 = ((0, fd) : Int32 × Row) := by have hz9 : p_rgt d nu (40 * ix s0) (ix (sz (ix s0))) 40 0 = i3 := hJ3.trans (rgt_f (fun z => c_12 z.2)); rw [s_judge, if_pos c_2, hz9]; rw [if_pos (by rw [← c_13]; exact (ix_nI (by omega)).symm)]
              exact fr_i hx hb hr hlocks hX hC d (congrArg (fun z => some (Value.int z)) (t2_1 hs)) (congrArg (fun z => mct G (mpg d kp d bf sc z tp it ws sz nu mv)) (t2_2 hs)).symm dX13_judge_92
          · refine lv_aload_n hx hb dX13_judge_61 rfl (lv_at hl 1 rfl) ?_
            refine fc_V (As := []) (rest := []) hx hb hml hown hts hX hC (m_X13_tick (hw.ticks _)) (lw_V q1498 q1500 qs69 q124 q1501) hdV_X13_tick ⟨rfl, rfl⟩ ⟨Nat.le_of_ble_eq_true rfl, Nat.le_of_ble_eq_true rfl⟩ (fx_recv (g := 0) (i := 0) (ci := 0) (q := (RX13, TX13, 24)) hX hC (min_ (by decide)) rfl rfl) hl.1 rfl (Nat.le_of_ble_eq_true rfl) ⟨Nat.zero_le _, Nat.zero_le _⟩ dX13_judge_62 (fun _ H locs hC => ?_)
            refine W.eq (g2 := F0 m 65 ls []) rfl ?_
            refine lv_iinc (v := nI (i3 + 1)) (lv' := [(2, .int (nI (i3 + 1))), (0, .ref (G.ad 0 0)), (1, .int s0)]) hx hb dX13_judge_65 hl (k := 0) rfl (nI_1 _) (by decide) rfl (fun ls hl => ?_)
            refine lv_goto (tgt := 31) hx hb dX13_judge_68 (by decide) ?_
            have hcn := rgt_t (w := d) (nu := nu) (b := 40 * ix s0) (k := k3) ⟨(ltix (by omega)).mp c_8, c_12⟩
            exact ih3 (i3 + 1) (by omega) (hJ3.trans hcn) _ _ hC ls (lv_sub hl [0, 1, 2] rfl)
    exact L_3 40 0 rfl rfl _ _ hC ls (lv_sub hl [0, 1, 2] rfl)
  · refine lv_aload_n hx hb dX13_judge_8 rfl (lv_at hl 0 rfl) ?_
    refine lv_aload_n hx hb dX13_judge_9 rfl (lv_at hl 0 rfl) ?_
    refine lv_iload_n hx hb dX13_judge_10 rfl (lv_at hl 1 rfl) ?_
    refine fc_V (As := [.int s0]) (rest := [.ref (G.ad 0 0)]) hx hb hml hown hts hX hC (m_X13_lacks s0) (lw_V q1687 q1689 qs88 q124 q1690) hdV_X13_lacks ⟨rfl, rfl⟩ ⟨Nat.le_of_ble_eq_true rfl, Nat.le_of_ble_eq_true rfl⟩ (fx_recv (g := 0) (i := 0) (ci := 0) (q := (RX13, TX13, 24)) hX hC (min_ (by decide)) rfl rfl) hl.1 rfl (Nat.le_of_ble_eq_true rfl) ⟨Nat.zero_le _, Nat.zero_le _⟩ dX13_judge_11 (fun _ H locs hC => ?_)
    refine W.eq (g2 := F0 m 14 ls [.int (p_lack ws s0), .ref (G.ad 0 0)]) rfl ?_
    refine fc_V (As := [.int (p_lack ws s0)]) (rest := []) hx hb hml hown hts hX hC (m_X13_findingV (p_lack ws s0) (lack_n c_2)) (lw_V q1404 q1406 qs56 q124 q1407) hdV_X13_finding ⟨rfl, rfl⟩ ⟨Nat.le_of_ble_eq_true rfl, Nat.le_of_ble_eq_true rfl⟩ (fx_recv (g := 0) (i := 0) (ci := 0) (q := (RX13, TX13, 24)) hX hC (min_ (by decide)) rfl rfl) hl.1 rfl (Nat.le_of_ble_eq_true rfl) ⟨Nat.zero_le _, Nat.zero_le _⟩ dX13_judge_14 (fun _ H locs hC => ?_)
    refine W.eq (g2 := F0 m 17 ls [.int (p_lack ws s0)]) rfl ?_
    have hs : s_judge d fd ws sz nu s0 = ((p_lack ws s0, p_fnd fd (p_lack ws s0)) : Int32 × Row) := by rw [s_judge, if_neg c_2]
    exact fr_i hx hb hr hlocks hX hC as (congrArg (fun z => some (Value.int z)) (t2_1 hs)) (congrArg (fun z => mct G (mpg d kp as bf sc z tp it ws sz nu mv)) (t2_2 hs)).symm dX13_judge_17
