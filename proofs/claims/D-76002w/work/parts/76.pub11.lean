theorem hdS_X0_length : yX0_length.cls ≠ "java/lang/invoke/MethodHandle" ∧ yX0_length.cls ≠ "java/lang/invoke/VarHandle" ∧ (parseMethodDescriptor yX0_length.desc).map (fun d => d.parameters.length) = some 1 := by decide +kernel
theorem hdS_X0_number : yX0_number.cls ≠ "java/lang/invoke/MethodHandle" ∧ yX0_number.cls ≠ "java/lang/invoke/VarHandle" ∧ (parseMethodDescriptor yX0_number.desc).map (fun d => d.parameters.length) = some 2 := by decide +kernel
theorem hdV_X0_isHeardSo : yX0_isHeardSo.cls = RX0 ∧ yX0_isHeardSo.cls ≠ "java/lang/invoke/MethodHandle" ∧ yX0_isHeardSo.cls ≠ "java/lang/invoke/VarHandle" ∧ (parseMethodDescriptor yX0_isHeardSo.desc).map (fun d => d.parameters.length) = some 2 := by decide +kernel
set_option maxRecDepth 100000 in
theorem m_X0_loads {l : Launch} {G : Gc} {d kp as un to sc fd tp sh : Row} {sp : Nat → Option Nat} (i0 : Nat) (hi0 : i0 < 4) (hG : GW G) (hn : ¬ G.sw i0 = 0) : Cm l yX0_loads (ws_ yX0_loads cX0_loads 3 (some .int)) ({ frames := 2, cells := 0, slots := 0, locals := 42 }) (cF G) [.ref (G.ad 5 0), .ref (G.ad 10 i0)] (cct G (pg d kp as un to sc fd tp sh) sp) (fun _ : Unit => some (.int (nI (p_lds sh (40 * i0) (G.sn i0) 40 0)))) (fun _ => cct G (pg (p_lay d sh (40 * i0) (p_lds sh (40 * i0) (G.sn i0) 40 0)) kp as un to sc fd tp sh) sp) := by
  refine Cm.start (by decide) (Nat.le_of_ble_eq_true rfl) ?_
  intro p e s m below meth c hf hX hC ls hl
  obtain ⟨hx, hb, hr, hml, hown, hts, hlocks⟩ := hf
  have hl : lv_has ls 3 [(0, .ref (G.ad 5 0)), (1, .ref (G.ad 10 i0))] := hl
  have hown : s.vm.findClass "OwlEars" = some m.cls := hown
  have h40 := (hG i0 hi0).2
  refine lv_iconst (v := 0) hx hb dX0_loads_0 rfl ?_
  refine lv_istore_n (lv' := [(2, .int 0), (0, .ref (G.ad 5 0)), (1, .ref (G.ad 10 i0))]) hx hb dX0_loads_1 rfl hl (by decide) rfl (fun ls hl => ?_)
  have L_1 : ∀ (k1 i1 : Nat), i1 + k1 = 40 → p_lds sh (40 * i0) (G.sn i0) 40 0 = p_lds sh (40 * i0) (G.sn i0) k1 i1 → ∀ (H : Heap) (locs : List Loc), fC (cF G) (cct G (pg (p_lay d sh (40 * i0) i1) kp as un to sc fd tp sh) sp) s.heap H locs → ∀ ls : Array Slot, lv_has ls 3 [(2, .int (nI i1)), (0, .ref (G.ad 5 0)), (1, .ref (G.ad 10 i0))] → WG p l e ({ frames := 2, cells := 0, slots := 0, locals := 42 }) s m (([.ref (G.ad 5 0), .ref (G.ad 10 i0)] : List Value).toArray) below meth c H locs (cF G) (fun _ : Unit => some (.int (nI (p_lds sh (40 * i0) (G.sn i0) 40 0)))) (fun _ => cct G (pg (p_lay d sh (40 * i0) (p_lds sh (40 * i0) (G.sn i0) 40 0)) kp as un to sc fd tp sh) sp) (F0 m 2 ls []) := by
    intro k1
    induction k1 with
    | zero =>
      intro i1 hi1 hJ1 H locs hC ls hl
      obtain rfl : i1 = 40 := by omega
      refine lv_iload_n hx hb dX0_loads_2 rfl (lv_at hl 0 rfl) ?_
      refine lv_aload_n hx hb dX0_loads_3 rfl (lv_at hl 2 rfl) ?_
      refine fc_S (As := [.ref (G.ad 10 i0)]) (rest := [.int (nI 40)]) hx hb hml hown hts hX hC (m_X0_length i0 hi0 hG hn) (lw_S q1003 q1004 q108 q1005) hdS_X0_length ⟨rfl, rfl⟩ ⟨Nat.le_of_ble_eq_true rfl, Nat.le_of_ble_eq_true rfl⟩ hl.1 rfl (Nat.le_of_ble_eq_true rfl) ⟨Nat.zero_le _, Nat.zero_le _⟩ dX0_loads_4 (fun _ H locs hC => ?_)
      refine W.eq (g2 := F0 m 7 ls [.int (nI ((G.sn i0))), .int (nI 40)]) rfl ?_
      refine fj_ge (tgt := 51) hx hb dX0_loads_7 (by decide) (fun _ => ?_) (fun z_3 => absurd z_3 (nI_nlt (a := 40) (b := G.sn i0) h40 (by decide)))
      refine lv_iload_n hx hb dX0_loads_51 rfl (lv_at hl 0 rfl) ?_
      exact fr_i hx hb hr hlocks hX hC () (congrArg (fun z => some (Value.int z)) (by rw [show p_lds sh (40 * i0) (G.sn i0) 40 0 = 40 from hJ1])) (congrArg (fun z => cct G (pg z kp as un to sc fd tp sh) sp) (by rw [show p_lds sh (40 * i0) (G.sn i0) 40 0 = 40 from hJ1])) dX0_loads_52
    | succ k1 ih1 =>
      intro i1 hi1 hJ1 H locs hC ls hl
      refine lv_iload_n hx hb dX0_loads_2 rfl (lv_at hl 0 rfl) ?_
      refine lv_aload_n hx hb dX0_loads_3 rfl (lv_at hl 2 rfl) ?_
      refine fc_S (As := [.ref (G.ad 10 i0)]) (rest := [.int (nI i1)]) hx hb hml hown hts hX hC (m_X0_length i0 hi0 hG hn) (lw_S q1003 q1004 q108 q1005) hdS_X0_length ⟨rfl, rfl⟩ ⟨Nat.le_of_ble_eq_true rfl, Nat.le_of_ble_eq_true rfl⟩ hl.1 rfl (Nat.le_of_ble_eq_true rfl) ⟨Nat.zero_le _, Nat.zero_le _⟩ dX0_loads_4 (fun _ H locs hC => ?_)
      refine W.eq (g2 := F0 m 7 ls [.int (nI ((G.sn i0))), .int (nI i1)]) rfl ?_
      refine fj_ge (tgt := 51) hx hb dX0_loads_7 (by decide) (fun c_5 => ?_) (fun c_5 => ?_)
      · refine lv_iload_n hx hb dX0_loads_51 rfl (lv_at hl 0 rfl) ?_
        exact fr_i hx hb hr hlocks hX hC () (congrArg (fun z => some (Value.int z)) (by rw [show p_lds sh (40 * i0) (G.sn i0) 40 0 = i1 from hJ1.trans (lds_f (fun z => c_5 ((lt_nI (by omega) (by omega)).mpr z.1)))])) (congrArg (fun z => cct G (pg z kp as un to sc fd tp sh) sp) (by rw [show p_lds sh (40 * i0) (G.sn i0) 40 0 = i1 from hJ1.trans (lds_f (fun z => c_5 ((lt_nI (by omega) (by omega)).mpr z.1)))])) dX0_loads_52
      · refine lv_iload_n hx hb dX0_loads_10 rfl (lv_at hl 0 rfl) ?_
        refine fc_S (As := [.int (nI i1)]) (rest := []) hx hb hml hown hts hX hC (m_X0_isCell (nI i1)) (lw_S q466 q467 q108 q468) hdS_X0_isCell ⟨rfl, rfl⟩ ⟨Nat.le_of_ble_eq_true rfl, Nat.le_of_ble_eq_true rfl⟩ hl.1 rfl (Nat.le_of_ble_eq_true rfl) ⟨Nat.zero_le _, Nat.zero_le _⟩ dX0_loads_11 (fun _ H locs hC => ?_)
        refine W.eq (g2 := F0 m 14 ls [.int (b2i (p_in (nI i1) 0 35))]) rfl ?_
        refine fb_eq (tgt := 51) hx hb dX0_loads_14 (by decide) (fun c_7 => ?_) (fun c_7 => ?_)
        · refine lv_iload_n hx hb dX0_loads_51 rfl (lv_at hl 0 rfl) ?_
          exact fr_i hx hb hr hlocks hX hC () (congrArg (fun z => some (Value.int z)) (by rw [show p_lds sh (40 * i0) (G.sn i0) 40 0 = i1 from hJ1.trans (lds_f (fun z => c_7 ((in35 (by omega)).mpr z.2.1)))])) (congrArg (fun z => cct G (pg z kp as un to sc fd tp sh) sp) (by rw [show p_lds sh (40 * i0) (G.sn i0) 40 0 = i1 from hJ1.trans (lds_f (fun z => c_7 ((in35 (by omega)).mpr z.2.1)))])) dX0_loads_52
        · refine lv_aload_n hx hb dX0_loads_17 rfl (lv_at hl 2 rfl) ?_
          refine lv_iload_n hx hb dX0_loads_18 rfl (lv_at hl 0 rfl) ?_
          refine fc_S (As := [.ref (G.ad 10 i0), .int (nI i1)]) (rest := []) hx hb hml hown hts hX hC (m_X0_number i0 hi0 hG hn i1 ((lt_nI (by omega) (by omega)).mp c_5)) (lw_S q1009 q1010 q108 q1011) hdS_X0_number ⟨rfl, rfl⟩ ⟨Nat.le_of_ble_eq_true rfl, Nat.le_of_ble_eq_true rfl⟩ hl.1 rfl (Nat.le_of_ble_eq_true rfl) ⟨Nat.zero_le _, Nat.zero_le _⟩ dX0_loads_19 (fun _ H locs hC => ?_)
          refine W.eq (g2 := F0 m 22 ls [.int (sh (40 * i0 + i1))]) rfl ?_
          refine lv_iconst (v := 0) hx hb dX0_loads_22 rfl ?_
          refine lv_bipush (v := 30) hx hb dX0_loads_23 rfl ?_
          refine fc_S (As := [.int (sh (40 * i0 + i1)), .int 0, .int 30]) (rest := []) hx hb hml hown hts hX hC (m_X0_in (sh (40 * i0 + i1)) 0 30) (lw_S q469 q470 q108 q471) hdS_X0_in ⟨rfl, rfl⟩ ⟨Nat.le_of_ble_eq_true rfl, Nat.le_of_ble_eq_true rfl⟩ hl.1 rfl (Nat.le_of_ble_eq_true rfl) ⟨Nat.zero_le _, Nat.zero_le _⟩ dX0_loads_25 (fun _ H locs hC => ?_)
          refine W.eq (g2 := F0 m 28 ls [.int (b2i (p_in (sh (40 * i0 + i1)) 0 30))]) rfl ?_
          refine fb_eq (tgt := 51) hx hb dX0_loads_28 (by decide) (fun c_10 => ?_) (fun c_10 => ?_)
          · refine lv_iload_n hx hb dX0_loads_51 rfl (lv_at hl 0 rfl) ?_
            exact fr_i hx hb hr hlocks hX hC () (congrArg (fun z => some (Value.int z)) (by rw [show p_lds sh (40 * i0) (G.sn i0) 40 0 = i1 from hJ1.trans (lds_f (fun z => c_10 z.2.2))])) (congrArg (fun z => cct G (pg z kp as un to sc fd tp sh) sp) (by rw [show p_lds sh (40 * i0) (G.sn i0) 40 0 = i1 from hJ1.trans (lds_f (fun z => c_10 z.2.2))])) dX0_loads_52
          · refine lv_aload_n hx hb dX0_loads_31 rfl (lv_at hl 1 rfl) ?_
            refine fg_get (C := RX0) (T := TX0) (N := 13) (ci := 1) (g := 5) (i := 0) (v := .ref (G.ad 0 0)) hx hb hown hts hX hC in_X0 rfl (cin rfl) rfl 3 (by decide) q425 (fun _ h => h) rfl dX0_loads_32 ?_
            refine fg_getN (C := RX4) (T := TX4) (N := 9) (ci := 0) (g := 0) (i := 0) (v := .ref (G.ad 0 1)) hx hb hown hts hX hC in_X4 rfl (cin rfl) rfl 0 (by decide) (hX.2.2.1.F q240) (fun _ h => h) rfl dX0_loads_35 ?_
            refine lv_iload_n hx hb dX0_loads_38 rfl (lv_at hl 0 rfl) ?_
            refine lv_aload_n hx hb dX0_loads_39 rfl (lv_at hl 2 rfl) ?_
            refine lv_iload_n hx hb dX0_loads_40 rfl (lv_at hl 0 rfl) ?_
            refine fc_S (As := [.ref (G.ad 10 i0), .int (nI i1)]) (rest := [.int (nI i1), .ref (G.ad 0 1)]) hx hb hml hown hts hX hC (m_X0_number i0 hi0 hG hn i1 ((lt_nI (by omega) (by omega)).mp c_5)) (lw_S q1009 q1010 q108 q1011) hdS_X0_number ⟨rfl, rfl⟩ ⟨Nat.le_of_ble_eq_true rfl, Nat.le_of_ble_eq_true rfl⟩ hl.1 rfl (Nat.le_of_ble_eq_true rfl) ⟨Nat.zero_le _, Nat.zero_le _⟩ dX0_loads_41 (fun _ H locs hC => ?_)
            refine W.eq (g2 := F0 m 44 ls [.int (sh (40 * i0 + i1)), .int (nI i1), .ref (G.ad 0 1)]) rfl ?_
            refine fg_iast (g := 0) (i := 1) (t0 := 0) hx hb hX hC (cin rfl) rfl rfl (vp_in_nI ((in35 (by omega)).mp c_7) (by decide)) (cct G (pg (upd (p_lay d sh (40 * i0) i1) (20 + ix (nI i1)) (sh (40 * i0 + i1))) kp as un to sc fd tp sh) sp) (cs_snow (k := ix (nI i1)) (vin_lt (vp_in_nI ((in35 (by omega)).mp c_7) (by decide)))) dX0_loads_44 (fun H locs hC => ?_)
            refine lv_iinc (v := nI (i1 + 1)) (lv' := [(2, .int (nI (i1 + 1))), (0, .ref (G.ad 5 0)), (1, .ref (G.ad 10 i0))]) hx hb dX0_loads_45 hl (k := 0) rfl (nI_1 _) (by decide) rfl (fun ls hl => ?_)
            refine lv_goto (tgt := 2) hx hb dX0_loads_48 (by decide) ?_
            have hcn := lds_t (nu := sh) (b := 40 * i0) (k := k1) ⟨(lt_nI (by omega) (by omega)).mp c_5, (in35 (by omega)).mp c_7, c_10⟩
            have hC := (congrArg (fun z => fC (cF G) (cct G (pg z kp as un to sc fd tp sh) sp) s.heap _ _) (show upd (p_lay d sh (40 * i0) i1) (20 + ix (nI i1)) (sh (40 * i0 + i1)) = p_lay d sh (40 * i0) (i1 + 1) by rw [ix_nI (by omega)]; exact p_lay_s d sh (40 * i0) i1)).mp hC
            exact ih1 (i1 + 1) (by omega) (hJ1.trans hcn) _ _ hC ls (lv_sub hl [0, 1, 2] rfl)
  have hC := (congrArg (fun z => fC (cF G) (cct G (pg z kp as un to sc fd tp sh) sp) s.heap _ _) (p_lay_0 d sh (40 * i0))).mp hC
  exact L_1 40 0 rfl rfl _ _ hC ls (lv_sub hl [0, 1, 2] rfl)
set_option maxRecDepth 100000 in
theorem m_X0_rightOnes {l : Launch} {G : Gc} {d kp as un to sc fd tp sh : Row} {sp : Nat → Option Nat} (hw : WF d) (i0 : Nat) (hi0 : i0 < 4) (hG : GW G) (hn : ¬ G.sw i0 = 0) : Cm l yX0_rightOnes (wsW_ yX0_rightOnes cX0_rightOnes 5 (some .int) [(11, 53, 66, 0), (66, 68, 66, 0)]) ({ frames := 3, cells := 0, slots := 0, locals := 103 }) (cF G) [.ref (G.ad 5 0), .ref (G.ad 10 i0)] (cct G (pg d kp as un to sc fd tp sh) sp) (fun _ : Unit => some (.int (nI (p_rgt d sh (40 * i0) (G.sn i0) 40 0)))) (fun _ => cct G (pg d kp d un to sc fd tp sh) sp) := by
  refine Cm.startW (by decide) (Nat.le_of_ble_eq_true rfl) ?_
  intro p e s m below meth c hf hX hC ls hl
  obtain ⟨hx, hb, hr, hml, hown, hts, hlocks⟩ := hf
  have hl : lv_has ls 5 [(0, .ref (G.ad 5 0)), (1, .ref (G.ad 10 i0))] := hl
  have hown : s.vm.findClass "OwlEars" = some m.cls := hown
  have h40 := (hG i0 hi0).2
  refine lv_aload_n hx hb dX0_rightOnes_0 rfl (lv_at hl 0 rfl) ?_
  refine fg_get (C := RX0) (T := TX0) (N := 13) (ci := 1) (g := 5) (i := 0) (v := .ref (G.ad 2 0)) hx hb hown hts hX hC in_X0 rfl (cin rfl) rfl 5 (by decide) q427 (fun _ h => h) rfl dX0_rightOnes_1 ?_
  refine lv_aload_n hx hb dX0_rightOnes_4 rfl (lv_at hl 0 rfl) ?_
  refine fg_get (C := RX0) (T := TX0) (N := 13) (ci := 1) (g := 5) (i := 0) (v := .ref (G.ad 0 0)) hx hb hown hts hX hC in_X0 rfl (cin rfl) rfl 3 (by decide) q425 (fun _ h => h) rfl dX0_rightOnes_5 ?_
  refine fc_V (As := [.ref (G.ad 0 0)]) (rest := []) hx hb hml hown hts hX hC (m_X4_become_20) (lw_V q700 q701 q702 q115 q703) hdV_X4_become ⟨rfl, rfl⟩ ⟨Nat.le_of_ble_eq_true rfl, Nat.le_of_ble_eq_true rfl⟩ (fx_recv (g := 2) (i := 0) (ci := 0) (q := (RX4, TX4, 9)) hX hC (cin rfl) rfl rfl) hl.1 rfl (Nat.le_of_ble_eq_true rfl) ⟨Nat.zero_le _, Nat.zero_le _⟩ dX0_rightOnes_8 (fun _ H locs hC => ?_)
  refine W.eq (g2 := F0 m 11 ls []) rfl ?_
  refine lv_iconst (v := 0) hx hb dX0_rightOnes_11 rfl ?_
  refine lv_istore_n (lv' := [(2, .int 0), (0, .ref (G.ad 5 0)), (1, .ref (G.ad 10 i0))]) hx hb dX0_rightOnes_12 rfl hl (by decide) rfl (fun ls hl => ?_)
  have L_2 : ∀ (k2 i2 : Nat), i2 + k2 = 40 → p_rgt d sh (40 * i0) (G.sn i0) 40 0 = p_rgt d sh (40 * i0) (G.sn i0) k2 i2 → ∀ (H : Heap) (locs : List Loc), fC (cF G) (cct G (pg (p_ticks i2 d) kp d un to sc fd tp sh) sp) s.heap H locs → ∀ ls : Array Slot, lv_has ls 5 [(2, .int (nI i2)), (0, .ref (G.ad 5 0)), (1, .ref (G.ad 10 i0))] → WG p l e ({ frames := 3, cells := 0, slots := 0, locals := 103 }) s m (([.ref (G.ad 5 0), .ref (G.ad 10 i0)] : List Value).toArray) below meth c H locs (cF G) (fun _ : Unit => some (.int (nI (p_rgt d sh (40 * i0) (G.sn i0) 40 0)))) (fun _ => cct G (pg d kp d un to sc fd tp sh) sp) (F0 m 13 ls []) := by
    intro k2
    induction k2 with
    | zero =>
      intro i2 hi2 hJ2 H locs hC ls hl
      obtain rfl : i2 = 40 := by omega
      refine lv_iload_n hx hb dX0_rightOnes_13 rfl (lv_at hl 0 rfl) ?_
      refine lv_aload_n hx hb dX0_rightOnes_14 rfl (lv_at hl 2 rfl) ?_
      refine fc_S (As := [.ref (G.ad 10 i0)]) (rest := [.int (nI 40)]) hx hb hml hown hts hX hC (m_X0_length i0 hi0 hG hn) (lw_S q1003 q1004 q108 q1005) hdS_X0_length ⟨rfl, rfl⟩ ⟨Nat.le_of_ble_eq_true rfl, Nat.le_of_ble_eq_true rfl⟩ hl.1 rfl (Nat.le_of_ble_eq_true rfl) ⟨Nat.zero_le _, Nat.zero_le _⟩ dX0_rightOnes_15 (fun _ H locs hC => ?_)
      refine W.eq (g2 := F0 m 18 ls [.int (nI ((G.sn i0))), .int (nI 40)]) rfl ?_
      refine fj_ge (tgt := 51) hx hb dX0_rightOnes_18 (by decide) (fun _ => ?_) (fun z_4 => absurd z_4 (nI_nlt (a := 40) (b := G.sn i0) h40 (by decide)))
      refine lv_iload_n hx hb dX0_rightOnes_51 rfl (lv_at hl 0 rfl) ?_
      refine lv_istore_n (lv' := [(3, .int (nI 40)), (2, .int (nI 40)), (0, .ref (G.ad 5 0)), (1, .ref (G.ad 10 i0))]) hx hb dX0_rightOnes_52 rfl hl (by decide) rfl (fun ls hl => ?_)
      refine lv_aload_n hx hb dX0_rightOnes_53 rfl (lv_at hl 2 rfl) ?_
      refine fg_get (C := RX0) (T := TX0) (N := 13) (ci := 1) (g := 5) (i := 0) (v := .ref (G.ad 0 0)) hx hb hown hts hX hC in_X0 rfl (cin rfl) rfl 3 (by decide) q425 (fun _ h => h) rfl dX0_rightOnes_54 ?_
      refine lv_aload_n hx hb dX0_rightOnes_57 rfl (lv_at hl 2 rfl) ?_
      refine fg_get (C := RX0) (T := TX0) (N := 13) (ci := 1) (g := 5) (i := 0) (v := .ref (G.ad 2 0)) hx hb hown hts hX hC in_X0 rfl (cin rfl) rfl 5 (by decide) q427 (fun _ h => h) rfl dX0_rightOnes_58 ?_
      refine fc_V (As := [.ref (G.ad 2 0)]) (rest := []) hx hb hml hown hts hX hC (m_X4_become_02) (lw_V q700 q701 q702 q115 q703) hdV_X4_become ⟨rfl, rfl⟩ ⟨Nat.le_of_ble_eq_true rfl, Nat.le_of_ble_eq_true rfl⟩ (fx_recv (g := 0) (i := 0) (ci := 0) (q := (RX4, TX4, 9)) hX hC (cin rfl) rfl rfl) hl.1 rfl (Nat.le_of_ble_eq_true rfl) ⟨Nat.zero_le _, Nat.zero_le _⟩ dX0_rightOnes_61 (fun _ H locs hC => ?_)
      refine W.eq (g2 := F0 m 64 ls []) rfl ?_
      refine lv_iload_n hx hb dX0_rightOnes_64 rfl (lv_at hl 0 rfl) ?_
      exact fr_i hx hb hr hlocks hX hC () (congrArg (fun z => some (Value.int z)) (by rw [show p_rgt d sh (40 * i0) (G.sn i0) 40 0 = 40 from hJ2])) rfl dX0_rightOnes_65
    | succ k2 ih2 =>
      intro i2 hi2 hJ2 H locs hC ls hl
      refine lv_iload_n hx hb dX0_rightOnes_13 rfl (lv_at hl 0 rfl) ?_
      refine lv_aload_n hx hb dX0_rightOnes_14 rfl (lv_at hl 2 rfl) ?_
      refine fc_S (As := [.ref (G.ad 10 i0)]) (rest := [.int (nI i2)]) hx hb hml hown hts hX hC (m_X0_length i0 hi0 hG hn) (lw_S q1003 q1004 q108 q1005) hdS_X0_length ⟨rfl, rfl⟩ ⟨Nat.le_of_ble_eq_true rfl, Nat.le_of_ble_eq_true rfl⟩ hl.1 rfl (Nat.le_of_ble_eq_true rfl) ⟨Nat.zero_le _, Nat.zero_le _⟩ dX0_rightOnes_15 (fun _ H locs hC => ?_)
      refine W.eq (g2 := F0 m 18 ls [.int (nI ((G.sn i0))), .int (nI i2)]) rfl ?_
      refine fj_ge (tgt := 51) hx hb dX0_rightOnes_18 (by decide) (fun c_7 => ?_) (fun c_7 => ?_)
      · refine lv_iload_n hx hb dX0_rightOnes_51 rfl (lv_at hl 0 rfl) ?_
        refine lv_istore_n (lv' := [(3, .int (nI i2)), (2, .int (nI i2)), (0, .ref (G.ad 5 0)), (1, .ref (G.ad 10 i0))]) hx hb dX0_rightOnes_52 rfl hl (by decide) rfl (fun ls hl => ?_)
        refine lv_aload_n hx hb dX0_rightOnes_53 rfl (lv_at hl 2 rfl) ?_
        refine fg_get (C := RX0) (T := TX0) (N := 13) (ci := 1) (g := 5) (i := 0) (v := .ref (G.ad 0 0)) hx hb hown hts hX hC in_X0 rfl (cin rfl) rfl 3 (by decide) q425 (fun _ h => h) rfl dX0_rightOnes_54 ?_
        refine lv_aload_n hx hb dX0_rightOnes_57 rfl (lv_at hl 2 rfl) ?_
        refine fg_get (C := RX0) (T := TX0) (N := 13) (ci := 1) (g := 5) (i := 0) (v := .ref (G.ad 2 0)) hx hb hown hts hX hC in_X0 rfl (cin rfl) rfl 5 (by decide) q427 (fun _ h => h) rfl dX0_rightOnes_58 ?_
        refine fc_V (As := [.ref (G.ad 2 0)]) (rest := []) hx hb hml hown hts hX hC (m_X4_become_02) (lw_V q700 q701 q702 q115 q703) hdV_X4_become ⟨rfl, rfl⟩ ⟨Nat.le_of_ble_eq_true rfl, Nat.le_of_ble_eq_true rfl⟩ (fx_recv (g := 0) (i := 0) (ci := 0) (q := (RX4, TX4, 9)) hX hC (cin rfl) rfl rfl) hl.1 rfl (Nat.le_of_ble_eq_true rfl) ⟨Nat.zero_le _, Nat.zero_le _⟩ dX0_rightOnes_61 (fun _ H locs hC => ?_)
        refine W.eq (g2 := F0 m 64 ls []) rfl ?_
        refine lv_iload_n hx hb dX0_rightOnes_64 rfl (lv_at hl 0 rfl) ?_
        exact fr_i hx hb hr hlocks hX hC () (congrArg (fun z => some (Value.int z)) (by rw [show p_rgt d sh (40 * i0) (G.sn i0) 40 0 = i2 from hJ2.trans (rgt_f (fun z => c_7 ((lt_nI (by omega) (by omega)).mpr z.1)))])) rfl dX0_rightOnes_65
      · refine lv_aload_n hx hb dX0_rightOnes_21 rfl (lv_at hl 2 rfl) ?_
        refine lv_iload_n hx hb dX0_rightOnes_22 rfl (lv_at hl 0 rfl) ?_
        refine fc_S (As := [.ref (G.ad 10 i0), .int (nI i2)]) (rest := []) hx hb hml hown hts hX hC (m_X0_number i0 hi0 hG hn i2 ((lt_nI (by omega) (by omega)).mp c_7)) (lw_S q1009 q1010 q108 q1011) hdS_X0_number ⟨rfl, rfl⟩ ⟨Nat.le_of_ble_eq_true rfl, Nat.le_of_ble_eq_true rfl⟩ hl.1 rfl (Nat.le_of_ble_eq_true rfl) ⟨Nat.zero_le _, Nat.zero_le _⟩ dX0_rightOnes_23 (fun _ H locs hC => ?_)
        refine W.eq (g2 := F0 m 26 ls [.int (sh (40 * i0 + i2))]) rfl ?_
        refine lv_aload_n hx hb dX0_rightOnes_26 rfl (lv_at hl 1 rfl) ?_
        refine fg_get (C := RX0) (T := TX0) (N := 13) (ci := 1) (g := 5) (i := 0) (v := .ref (G.ad 0 0)) hx hb hown hts hX hC in_X0 rfl (cin rfl) rfl 3 (by decide) q425 (fun _ h => h) rfl dX0_rightOnes_27 ?_
        refine fg_getN (C := RX4) (T := TX4) (N := 9) (ci := 0) (g := 0) (i := 0) (v := .ref (G.ad 0 3)) hx hb hown hts hX hC in_X4 rfl (cin rfl) rfl 2 (by decide) (hX.2.2.1.F q246) (fun _ h => h) rfl dX0_rightOnes_30 ?_
        refine lv_iconst (v := 0) hx hb dX0_rightOnes_33 rfl ?_
        refine fg_iald (g := 0) (i := 3) (t0 := 0) (v := (p_ticks i2 d) 3) hx hb hX hC (cin rfl) rfl rfl (vin_b rfl) rfl dX0_rightOnes_34 ?_
        refine lv_icmp_ne (tgt := 51) hx hb dX0_rightOnes_35 (by decide) (fun c_10 => ?_) (fun c_10 => ?_)
        · refine lv_iload_n hx hb dX0_rightOnes_51 rfl (lv_at hl 0 rfl) ?_
          refine lv_istore_n (lv' := [(3, .int (nI i2)), (2, .int (nI i2)), (0, .ref (G.ad 5 0)), (1, .ref (G.ad 10 i0))]) hx hb dX0_rightOnes_52 rfl hl (by decide) rfl (fun ls hl => ?_)
          refine lv_aload_n hx hb dX0_rightOnes_53 rfl (lv_at hl 2 rfl) ?_
          refine fg_get (C := RX0) (T := TX0) (N := 13) (ci := 1) (g := 5) (i := 0) (v := .ref (G.ad 0 0)) hx hb hown hts hX hC in_X0 rfl (cin rfl) rfl 3 (by decide) q425 (fun _ h => h) rfl dX0_rightOnes_54 ?_
          refine lv_aload_n hx hb dX0_rightOnes_57 rfl (lv_at hl 2 rfl) ?_
          refine fg_get (C := RX0) (T := TX0) (N := 13) (ci := 1) (g := 5) (i := 0) (v := .ref (G.ad 2 0)) hx hb hown hts hX hC in_X0 rfl (cin rfl) rfl 5 (by decide) q427 (fun _ h => h) rfl dX0_rightOnes_58 ?_
          refine fc_V (As := [.ref (G.ad 2 0)]) (rest := []) hx hb hml hown hts hX hC (m_X4_become_02) (lw_V q700 q701 q702 q115 q703) hdV_X4_become ⟨rfl, rfl⟩ ⟨Nat.le_of_ble_eq_true rfl, Nat.le_of_ble_eq_true rfl⟩ (fx_recv (g := 0) (i := 0) (ci := 0) (q := (RX4, TX4, 9)) hX hC (cin rfl) rfl rfl) hl.1 rfl (Nat.le_of_ble_eq_true rfl) ⟨Nat.zero_le _, Nat.zero_le _⟩ dX0_rightOnes_61 (fun _ H locs hC => ?_)
          refine W.eq (g2 := F0 m 64 ls []) rfl ?_
          refine lv_iload_n hx hb dX0_rightOnes_64 rfl (lv_at hl 0 rfl) ?_
          exact fr_i hx hb hr hlocks hX hC () (congrArg (fun z => some (Value.int z)) (by rw [show p_rgt d sh (40 * i0) (G.sn i0) 40 0 = i2 from hJ2.trans (rgt_f (fun z => c_10 z.2))])) rfl dX0_rightOnes_65
        · refine lv_aload_n hx hb dX0_rightOnes_38 rfl (lv_at hl 1 rfl) ?_
          refine fg_get (C := RX0) (T := TX0) (N := 13) (ci := 1) (g := 5) (i := 0) (v := .ref (G.ad 0 0)) hx hb hown hts hX hC in_X0 rfl (cin rfl) rfl 3 (by decide) q425 (fun _ h => h) rfl dX0_rightOnes_39 ?_
          refine fc_V (As := []) (rest := []) hx hb hml hown hts hX hC (m_X4_passes (hw.ticks _)) (lw_V q714 q715 q716 q115 q717) hdV_X4_passes ⟨rfl, rfl⟩ ⟨Nat.le_of_ble_eq_true rfl, Nat.le_of_ble_eq_true rfl⟩ (fx_recv (g := 0) (i := 0) (ci := 0) (q := (RX4, TX4, 9)) hX hC (cin rfl) rfl rfl) hl.1 rfl (Nat.le_of_ble_eq_true rfl) ⟨Nat.zero_le _, Nat.zero_le _⟩ dX0_rightOnes_42 (fun _ H locs hC => ?_)
          refine W.eq (g2 := F0 m 45 ls []) rfl ?_
          refine lv_iinc (v := nI (i2 + 1)) (lv' := [(2, .int (nI (i2 + 1))), (0, .ref (G.ad 5 0)), (1, .ref (G.ad 10 i0))]) hx hb dX0_rightOnes_45 hl (k := 0) rfl (nI_1 _) (by decide) rfl (fun ls hl => ?_)
          refine lv_goto (tgt := 13) hx hb dX0_rightOnes_48 (by decide) ?_
          have hcn := rgt_t (w := d) (nu := sh) (b := 40 * i0) (k := k2) ⟨(lt_nI (by omega) (by omega)).mp c_7, c_10⟩
          exact ih2 (i2 + 1) (by omega) (hJ2.trans hcn) _ _ hC ls (lv_sub hl [0, 1, 2] rfl)
  exact L_2 40 0 rfl rfl _ _ hC ls (lv_sub hl [0, 1, 2] rfl)
set_option maxRecDepth 100000 in
theorem m_X0_areHeardSo {l : Launch} {G : Gc} {d kp as un to sc fd tp sh : Row} {sp : Nat → Option Nat} (hw : WF d) (i0 : Nat) (hi0 : i0 < 4) (hG : GW G) (hn : ¬ G.sw i0 = 0) (ears : Int32) : Cm l yX0_areHeardSo (wsW_ yX0_areHeardSo cX0_areHeardSo 6 (some .boolean) [(11, 57, 71, 0), (71, 73, 71, 0)]) ({ frames := 5, cells := 0, slots := 0, locals := 105 }) (cF G) [.ref (G.ad 5 0), .ref (G.ad 10 i0), .int ears] (cct G (pg d kp as un to sc fd tp sh) sp) (fun _ : Unit => some (.int (b2i (p_areSo d sh (40 * i0) (G.sn i0) ears)))) (fun _ => cct G (pg d kp d un to sc fd tp sh) sp) := by
  refine Cm.startW (by decide) (Nat.le_of_ble_eq_true rfl) ?_
  intro p e s m below meth c hf hX hC ls hl
  obtain ⟨hx, hb, hr, hml, hown, hts, hlocks⟩ := hf
  have hl : lv_has ls 6 [(0, .ref (G.ad 5 0)), (1, .ref (G.ad 10 i0)), (2, .int ears)] := hl
  have hown : s.vm.findClass "OwlEars" = some m.cls := hown
  have h40 := (hG i0 hi0).2
  refine lv_aload_n hx hb dX0_areHeardSo_0 rfl (lv_at hl 0 rfl) ?_
  refine fg_get (C := RX0) (T := TX0) (N := 13) (ci := 1) (g := 5) (i := 0) (v := .ref (G.ad 2 0)) hx hb hown hts hX hC in_X0 rfl (cin rfl) rfl 5 (by decide) q427 (fun _ h => h) rfl dX0_areHeardSo_1 ?_
  refine lv_aload_n hx hb dX0_areHeardSo_4 rfl (lv_at hl 0 rfl) ?_
  refine fg_get (C := RX0) (T := TX0) (N := 13) (ci := 1) (g := 5) (i := 0) (v := .ref (G.ad 0 0)) hx hb hown hts hX hC in_X0 rfl (cin rfl) rfl 3 (by decide) q425 (fun _ h => h) rfl dX0_areHeardSo_5 ?_
  refine fc_V (As := [.ref (G.ad 0 0)]) (rest := []) hx hb hml hown hts hX hC (m_X4_become_20) (lw_V q700 q701 q702 q115 q703) hdV_X4_become ⟨rfl, rfl⟩ ⟨Nat.le_of_ble_eq_true rfl, Nat.le_of_ble_eq_true rfl⟩ (fx_recv (g := 2) (i := 0) (ci := 0) (q := (RX4, TX4, 9)) hX hC (cin rfl) rfl rfl) hl.1 rfl (Nat.le_of_ble_eq_true rfl) ⟨Nat.zero_le _, Nat.zero_le _⟩ dX0_areHeardSo_8 (fun _ H locs hC => ?_)
  refine W.eq (g2 := F0 m 11 ls []) rfl ?_
  refine lv_iconst (v := 1) hx hb dX0_areHeardSo_11 rfl ?_
  refine lv_istore_n (lv' := [(3, .int 1), (0, .ref (G.ad 5 0)), (1, .ref (G.ad 10 i0)), (2, .int ears)]) hx hb dX0_areHeardSo_12 rfl hl (by decide) rfl (fun ls hl => ?_)
  refine lv_iconst (v := 0) hx hb dX0_areHeardSo_13 rfl ?_
  refine lv_istore (lv' := [(4, .int 0), (3, .int 1), (0, .ref (G.ad 5 0)), (1, .ref (G.ad 10 i0)), (2, .int ears)]) hx hb dX0_areHeardSo_14 hl (by decide) rfl (fun ls hl => ?_)
  have L_2 : ∀ (k2 i2 : Nat), i2 + k2 = G.sn i0 → p_areSo d sh (40 * i0) i2 ears → ∀ (H : Heap) (locs : List Loc), fC (cF G) (cct G (pg (p_ticks i2 d) kp d un to sc fd tp sh) sp) s.heap H locs → ∀ ls : Array Slot, lv_has ls 6 [(4, .int (nI i2)), (3, .int 1), (0, .ref (G.ad 5 0)), (1, .ref (G.ad 10 i0)), (2, .int ears)] → WG p l e ({ frames := 5, cells := 0, slots := 0, locals := 105 }) s m (([.ref (G.ad 5 0), .ref (G.ad 10 i0), .int ears] : List Value).toArray) below meth c H locs (cF G) (fun _ : Unit => some (.int (b2i (p_areSo d sh (40 * i0) (G.sn i0) ears)))) (fun _ => cct G (pg d kp d un to sc fd tp sh) sp) (F0 m 16 ls []) := by
    intro k2
    induction k2 with
    | zero =>
      intro i2 hi2 hJ2 H locs hC ls hl
      obtain rfl : i2 = G.sn i0 := by omega
      refine lv_iload_n hx hb dX0_areHeardSo_16 rfl (lv_at hl 1 rfl) ?_
      refine lv_if_eq (tgt := 54) hx hb dX0_areHeardSo_17 (by decide) (fun z_3 => absurd z_3 (by decide)) (fun _ => ?_)
      refine lv_iload hx hb dX0_areHeardSo_20 (lv_at hl 0 rfl) ?_
      refine lv_aload_n hx hb dX0_areHeardSo_22 rfl (lv_at hl 3 rfl) ?_
      refine fc_S (As := [.ref (G.ad 10 i0)]) (rest := [.int (nI ((G.sn i0)))]) hx hb hml hown hts hX hC (m_X0_length i0 hi0 hG hn) (lw_S q1003 q1004 q108 q1005) hdS_X0_length ⟨rfl, rfl⟩ ⟨Nat.le_of_ble_eq_true rfl, Nat.le_of_ble_eq_true rfl⟩ hl.1 rfl (Nat.le_of_ble_eq_true rfl) ⟨Nat.zero_le _, Nat.zero_le _⟩ dX0_areHeardSo_23 (fun _ H locs hC => ?_)
      refine W.eq (g2 := F0 m 26 ls [.int (nI ((G.sn i0))), .int (nI ((G.sn i0)))]) rfl ?_
      refine fj_ge (tgt := 54) hx hb dX0_areHeardSo_26 (by decide) (fun _ => ?_) (fun z_5 => absurd z_5 (nI_nlt (a := G.sn i0) (b := G.sn i0) (Nat.le_refl _) (by omega)))
      refine lv_iload_n hx hb dX0_areHeardSo_54 rfl (lv_at hl 1 rfl) ?_
      refine lv_istore (lv' := [(4, .int 1), (3, .int 1), (0, .ref (G.ad 5 0)), (1, .ref (G.ad 10 i0)), (2, .int ears)]) hx hb dX0_areHeardSo_55 hl (by decide) rfl (fun ls hl => ?_)
      refine lv_aload_n hx hb dX0_areHeardSo_57 rfl (lv_at hl 2 rfl) ?_
      refine fg_get (C := RX0) (T := TX0) (N := 13) (ci := 1) (g := 5) (i := 0) (v := .ref (G.ad 0 0)) hx hb hown hts hX hC in_X0 rfl (cin rfl) rfl 3 (by decide) q425 (fun _ h => h) rfl dX0_areHeardSo_58 ?_
      refine lv_aload_n hx hb dX0_areHeardSo_61 rfl (lv_at hl 2 rfl) ?_
      refine fg_get (C := RX0) (T := TX0) (N := 13) (ci := 1) (g := 5) (i := 0) (v := .ref (G.ad 2 0)) hx hb hown hts hX hC in_X0 rfl (cin rfl) rfl 5 (by decide) q427 (fun _ h => h) rfl dX0_areHeardSo_62 ?_
      refine fc_V (As := [.ref (G.ad 2 0)]) (rest := []) hx hb hml hown hts hX hC (m_X4_become_02) (lw_V q700 q701 q702 q115 q703) hdV_X4_become ⟨rfl, rfl⟩ ⟨Nat.le_of_ble_eq_true rfl, Nat.le_of_ble_eq_true rfl⟩ (fx_recv (g := 0) (i := 0) (ci := 0) (q := (RX4, TX4, 9)) hX hC (cin rfl) rfl rfl) hl.1 rfl (Nat.le_of_ble_eq_true rfl) ⟨Nat.zero_le _, Nat.zero_le _⟩ dX0_areHeardSo_65 (fun _ H locs hC => ?_)
      refine W.eq (g2 := F0 m 68 ls []) rfl ?_
      refine lv_iload hx hb dX0_areHeardSo_68 (lv_at hl 0 rfl) ?_
      exact fr_z hx hb hr rfl hlocks hX hC () (congrArg (fun z => some (Value.int z)) (b2i_t (hJ2))) rfl dX0_areHeardSo_70
    | succ k2 ih2 =>
      intro i2 hi2 hJ2 H locs hC ls hl
      refine lv_iload_n hx hb dX0_areHeardSo_16 rfl (lv_at hl 1 rfl) ?_
      refine lv_if_eq (tgt := 54) hx hb dX0_areHeardSo_17 (by decide) (fun z_7 => absurd z_7 (by decide)) (fun _ => ?_)
      refine lv_iload hx hb dX0_areHeardSo_20 (lv_at hl 0 rfl) ?_
      refine lv_aload_n hx hb dX0_areHeardSo_22 rfl (lv_at hl 3 rfl) ?_
      refine fc_S (As := [.ref (G.ad 10 i0)]) (rest := [.int (nI i2)]) hx hb hml hown hts hX hC (m_X0_length i0 hi0 hG hn) (lw_S q1003 q1004 q108 q1005) hdS_X0_length ⟨rfl, rfl⟩ ⟨Nat.le_of_ble_eq_true rfl, Nat.le_of_ble_eq_true rfl⟩ hl.1 rfl (Nat.le_of_ble_eq_true rfl) ⟨Nat.zero_le _, Nat.zero_le _⟩ dX0_areHeardSo_23 (fun _ H locs hC => ?_)
      refine W.eq (g2 := F0 m 26 ls [.int (nI ((G.sn i0))), .int (nI i2)]) rfl ?_
      refine fj_ge (tgt := 54) hx hb dX0_areHeardSo_26 (by decide) (fun z_9 => absurd (nI_lt (a := i2) (b := G.sn i0) (by omega) (by omega)) z_9) (fun _ => ?_)
      refine lv_aload_n hx hb dX0_areHeardSo_29 rfl (lv_at hl 2 rfl) ?_
      refine lv_aload_n hx hb dX0_areHeardSo_30 rfl (lv_at hl 3 rfl) ?_
      refine lv_iload hx hb dX0_areHeardSo_31 (lv_at hl 0 rfl) ?_
      refine fc_S (As := [.ref (G.ad 10 i0), .int (nI i2)]) (rest := [.ref (G.ad 5 0)]) hx hb hml hown hts hX hC (m_X0_number i0 hi0 hG hn i2 (show i2 < G.sn i0 by omega)) (lw_S q1009 q1010 q108 q1011) hdS_X0_number ⟨rfl, rfl⟩ ⟨Nat.le_of_ble_eq_true rfl, Nat.le_of_ble_eq_true rfl⟩ hl.1 rfl (Nat.le_of_ble_eq_true rfl) ⟨Nat.zero_le _, Nat.zero_le _⟩ dX0_areHeardSo_33 (fun _ H locs hC => ?_)
      refine W.eq (g2 := F0 m 36 ls [.int (sh (40 * i0 + i2)), .ref (G.ad 5 0)]) rfl ?_
      refine lv_iload_n hx hb dX0_areHeardSo_36 rfl (lv_at hl 4 rfl) ?_
      refine fc_V (As := [.int (sh (40 * i0 + i2)), .int ears]) (rest := []) hx hb hml hown hts hX hC (m_X0_isHeardSo (hw.ticks _) (sh (40 * i0 + i2)) ears) (lw_V q1012 q1014 qs34 q108 q1015) hdV_X0_isHeardSo ⟨rfl, rfl⟩ ⟨Nat.le_of_ble_eq_true rfl, Nat.le_of_ble_eq_true rfl⟩ (fx_recv (g := 5) (i := 0) (ci := 1) (q := (RX0, TX0, 13)) hX hC (cin rfl) rfl rfl) hl.1 rfl (Nat.le_of_ble_eq_true rfl) ⟨Nat.zero_le _, Nat.zero_le _⟩ dX0_areHeardSo_37 (fun _ H locs hC => ?_)
      refine W.eq (g2 := F0 m 40 ls [.int (b2i (p_isSo (p_ticks i2 d) (sh (40 * i0 + i2)) ears))]) rfl ?_
      refine lv_istore_n (lv' := [(3, .int (b2i (p_isSo (p_ticks i2 d) (sh (40 * i0 + i2)) ears))), (4, .int (nI i2)), (0, .ref (G.ad 5 0)), (1, .ref (G.ad 10 i0)), (2, .int ears)]) hx hb dX0_areHeardSo_40 rfl hl (by decide) rfl (fun ls hl => ?_)
      refine lv_aload_n hx hb dX0_areHeardSo_41 rfl (lv_at hl 2 rfl) ?_
      refine fg_get (C := RX0) (T := TX0) (N := 13) (ci := 1) (g := 5) (i := 0) (v := .ref (G.ad 0 0)) hx hb hown hts hX hC in_X0 rfl (cin rfl) rfl 3 (by decide) q425 (fun _ h => h) rfl dX0_areHeardSo_42 ?_
      refine fc_V (As := []) (rest := []) hx hb hml hown hts hX hC (m_X4_passes (hw.ticks _)) (lw_V q714 q715 q716 q115 q717) hdV_X4_passes ⟨rfl, rfl⟩ ⟨Nat.le_of_ble_eq_true rfl, Nat.le_of_ble_eq_true rfl⟩ (fx_recv (g := 0) (i := 0) (ci := 0) (q := (RX4, TX4, 9)) hX hC (cin rfl) rfl rfl) hl.1 rfl (Nat.le_of_ble_eq_true rfl) ⟨Nat.zero_le _, Nat.zero_le _⟩ dX0_areHeardSo_45 (fun _ H locs hC => ?_)
      refine W.eq (g2 := F0 m 48 ls []) rfl ?_
      refine lv_iinc (v := nI (i2 + 1)) (lv' := [(4, .int (nI (i2 + 1))), (3, .int (b2i (p_isSo (p_ticks i2 d) (sh (40 * i0 + i2)) ears))), (0, .ref (G.ad 5 0)), (1, .ref (G.ad 10 i0)), (2, .int ears)]) hx hb dX0_areHeardSo_48 hl (k := 1) rfl (nI_1 _) (by decide) rfl (fun ls hl => ?_)
      refine lv_goto (tgt := 16) hx hb dX0_areHeardSo_51 (by decide) ?_
      by_cases c_13 : p_isSo (p_ticks i2 d) (sh (40 * i0 + i2)) ears
      · rw [b2i_t c_13] at hl
        exact ih2 (i2 + 1) (by omega) (areSo_s hJ2 c_13) _ _ hC ls (lv_sub hl [0, 1, 2, 3, 4] rfl)
      · rw [b2i_f c_13] at hl
        refine lv_iload_n hx hb dX0_areHeardSo_16 rfl (lv_at hl 1 rfl) ?_
        refine lv_if_eq (tgt := 54) hx hb dX0_areHeardSo_17 (by decide) (fun _ => ?_) (fun z_14 => absurd (by decide) z_14)
        refine lv_iload_n hx hb dX0_areHeardSo_54 rfl (lv_at hl 1 rfl) ?_
        refine lv_istore (lv' := [(4, .int 0), (3, .int 0), (0, .ref (G.ad 5 0)), (1, .ref (G.ad 10 i0)), (2, .int ears)]) hx hb dX0_areHeardSo_55 hl (by decide) rfl (fun ls hl => ?_)
        refine lv_aload_n hx hb dX0_areHeardSo_57 rfl (lv_at hl 2 rfl) ?_
        refine fg_get (C := RX0) (T := TX0) (N := 13) (ci := 1) (g := 5) (i := 0) (v := .ref (G.ad 0 0)) hx hb hown hts hX hC in_X0 rfl (cin rfl) rfl 3 (by decide) q425 (fun _ h => h) rfl dX0_areHeardSo_58 ?_
        refine lv_aload_n hx hb dX0_areHeardSo_61 rfl (lv_at hl 2 rfl) ?_
        refine fg_get (C := RX0) (T := TX0) (N := 13) (ci := 1) (g := 5) (i := 0) (v := .ref (G.ad 2 0)) hx hb hown hts hX hC in_X0 rfl (cin rfl) rfl 5 (by decide) q427 (fun _ h => h) rfl dX0_areHeardSo_62 ?_
        refine fc_V (As := [.ref (G.ad 2 0)]) (rest := []) hx hb hml hown hts hX hC (m_X4_become_02) (lw_V q700 q701 q702 q115 q703) hdV_X4_become ⟨rfl, rfl⟩ ⟨Nat.le_of_ble_eq_true rfl, Nat.le_of_ble_eq_true rfl⟩ (fx_recv (g := 0) (i := 0) (ci := 0) (q := (RX4, TX4, 9)) hX hC (cin rfl) rfl rfl) hl.1 rfl (Nat.le_of_ble_eq_true rfl) ⟨Nat.zero_le _, Nat.zero_le _⟩ dX0_areHeardSo_65 (fun _ H locs hC => ?_)
        refine W.eq (g2 := F0 m 68 ls []) rfl ?_
        refine lv_iload hx hb dX0_areHeardSo_68 (lv_at hl 0 rfl) ?_
        exact fr_z hx hb hr rfl hlocks hX hC () (congrArg (fun z => some (Value.int z)) (b2i_f (fun z => c_13 (z i2 (by omega))))) rfl dX0_areHeardSo_70
  exact L_2 _ 0 (Nat.zero_add _) (fun _ z => absurd z (Nat.not_lt_zero _)) _ _ hC ls (lv_sub hl [0, 1, 2, 3, 4] rfl)
