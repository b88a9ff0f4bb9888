theorem hdV_J6_charAt : yJ6_charAt.cls = RJ6 ∧ yJ6_charAt.cls ≠ "java/lang/invoke/MethodHandle" ∧ yJ6_charAt.cls ≠ "java/lang/invoke/VarHandle" ∧ (parseMethodDescriptor yJ6_charAt.desc).map (fun d => d.parameters.length) = some 1 := by decide +kernel
set_option maxRecDepth 100000 in
theorem m_X2_isKey {l : Launch} {G : Gc} {d kp as un to sc fd tp sh : Row} {sp : Nat → Option Nat} {L a b : Nat} {t v : Int32} (hL : L ≤ 120) (k n : Nat) (hk : k < 18) (hb0 : b ≤ 120) (hn : n ≤ 121) : Cm l yX2_isKey (ws_ yX2_isKey cX2_isKey 5 (some .boolean)) ({ frames := 4, cells := 0, slots := 0, locals := 85 }) (cF G) [.ref (G.ad 5 2), .int (nI k), .int (nI n)] (cct G (pg d kp as un to (rd sc L a b t v) fd tp sh) sp) (fun _ : Unit => some (.int (b2i (p_key tp L b k n)))) (fun _ => cct G (pg d kp as un to (rd sc L a b t v) fd tp sh) sp) := by
  refine Cm.start (by decide) (Nat.le_of_ble_eq_true rfl) ?_
  intro p e s m below meth c hf hX hC ls hl
  obtain ⟨hx, hb, hr, hml, hown, hts, hlocks⟩ := hf
  have hl : lv_has ls 5 [(0, .ref (G.ad 5 2)), (1, .int (nI k)), (2, .int (nI n))] := hl
  have hown : s.vm.findClass "OwlEars$Reader" = some m.cls := hown
  refine lv_iload_n hx hb dX2_isKey_0 rfl (lv_at hl 2 rfl) ?_
  refine lv_bipush (v := 7) hx hb dX2_isKey_1 rfl ?_
  refine lv_icmp_gt (tgt := 32) hx hb dX2_isKey_3 (by decide) (fun c_1 => ?_) (fun c_1 => ?_)
  · refine lv_iconst (v := 0) hx hb dX2_isKey_32 rfl ?_
    refine lv_istore_n (lv' := [(3, .int 0), (0, .ref (G.ad 5 2)), (1, .int (nI k)), (2, .int (nI n))]) hx hb dX2_isKey_33 rfl hl (by decide) rfl (fun ls hl => ?_)
    refine lv_iconst (v := 0) hx hb dX2_isKey_34 rfl ?_
    refine lv_istore (lv' := [(4, .int 0), (3, .int 0), (0, .ref (G.ad 5 2)), (1, .int (nI k)), (2, .int (nI n))]) hx hb dX2_isKey_35 hl (by decide) rfl (fun ls hl => ?_)
    refine lv_iload hx hb dX2_isKey_37 (lv_at hl 0 rfl) ?_
    refine lv_iload_n hx hb dX2_isKey_39 rfl (lv_at hl 4 rfl) ?_
    refine fj_ge (tgt := 85) hx hb dX2_isKey_40 (by decide) (fun c_2 => ?_) (fun c_2 => ?_)
    · refine lv_iload_n hx hb dX2_isKey_85 rfl (lv_at hl 1 rfl) ?_
      exact fr_z hx hb hr rfl hlocks hX hC () (congrArg (fun z => some (Value.int z)) (b2i_f (fun z => absurd ((lt_nI (a := 7) (by decide) (by omega)).mp c_1) (by have := z.1; omega)))) rfl dX2_isKey_86
    · refine lv_iload_n hx hb dX2_isKey_43 rfl (lv_at hl 1 rfl) ?_
      refine lv_if_eq (tgt := 85) hx hb dX2_isKey_44 (by decide) (fun _ => ?_) (fun z_3 => absurd (by decide) z_3)
      refine lv_iload_n hx hb dX2_isKey_85 rfl (lv_at hl 1 rfl) ?_
      exact fr_z hx hb hr rfl hlocks hX hC () (congrArg (fun z => some (Value.int z)) (b2i_f (fun z => absurd ((lt_nI (a := 7) (by decide) (by omega)).mp c_1) (by have := z.1; omega)))) rfl dX2_isKey_86
  · have hn7 : n ≤ 7 := Nat.le_of_not_lt (fun z => c_1 ((lt_nI (a := 7) (by decide) (by omega)).mpr z))
    refine lv_iload_n hx hb dX2_isKey_6 rfl (lv_at hl 2 rfl) ?_
    refine lv_bipush (v := 7) hx hb dX2_isKey_7 rfl ?_
    refine lv_icmp_eq (tgt := 28) hx hb dX2_isKey_9 (by decide) (fun c_4 => ?_) (fun c_4 => ?_)
    · refine lv_iconst (v := 1) hx hb dX2_isKey_28 rfl ?_
      refine lv_goto (tgt := 33) hx hb dX2_isKey_29 (by decide) ?_
      refine lv_istore_n (lv' := [(3, .int 1), (0, .ref (G.ad 5 2)), (1, .int (nI k)), (2, .int (nI n))]) hx hb dX2_isKey_33 rfl hl (by decide) rfl (fun ls hl => ?_)
      refine lv_iconst (v := 0) hx hb dX2_isKey_34 rfl ?_
      refine lv_istore (lv' := [(4, .int 0), (3, .int 1), (0, .ref (G.ad 5 2)), (1, .int (nI k)), (2, .int (nI n))]) hx hb dX2_isKey_35 hl (by decide) rfl (fun ls hl => ?_)
      have hn7b : n ≤ 7 := hn7
      have L_5 : ∀ (j5 i5 : Nat), i5 + j5 = n → (∀ j, j < i5 → p_chr 0 (7 * k + j) = p_byte tp L (b + j)) → ∀ (H : Heap) (locs : List Loc), fC (cF G) (cct G (pg d kp as un to (rd sc L a b t v) fd tp sh) sp) s.heap H locs → ∀ ls : Array Slot, lv_has ls 5 [(4, .int (nI i5)), (3, .int 1), (0, .ref (G.ad 5 2)), (1, .int (nI k)), (2, .int (nI n))] → WG p l e ({ frames := 4, cells := 0, slots := 0, locals := 85 }) s m (([.ref (G.ad 5 2), .int (nI k), .int (nI n)] : List Value).toArray) below meth c H locs (cF G) (fun _ : Unit => some (.int (b2i (p_key tp L b k n)))) (fun _ => cct G (pg d kp as un to (rd sc L a b t v) fd tp sh) sp) (F0 m 37 ls []) := by
        intro j5
        induction j5 with
        | zero =>
          intro i5 hi5 hJ5 H locs hC ls hl
          refine lv_iload hx hb dX2_isKey_37 (lv_at hl 0 rfl) ?_
          refine lv_iload_n hx hb dX2_isKey_39 rfl (lv_at hl 4 rfl) ?_
          refine fj_ge (tgt := 85) hx hb dX2_isKey_40 (by decide) (fun _ => ?_) (fun z_6 => absurd z_6 (nI_nlt (a := i5) (b := n) (by omega) (by omega)))
          refine lv_iload_n hx hb dX2_isKey_85 rfl (lv_at hl 1 rfl) ?_
          exact fr_z hx hb hr rfl hlocks hX hC () (congrArg (fun z => some (Value.int z)) (b2i_t (⟨hn7, Or.inl ((nI_eq (by omega) (by omega)).mp c_4), fun j hj9 => hJ5 j (by omega)⟩))) rfl dX2_isKey_86
        | succ j5 ih5 =>
          intro i5 hi5 hJ5 H locs hC ls hl
          refine lv_iload hx hb dX2_isKey_37 (lv_at hl 0 rfl) ?_
          refine lv_iload_n hx hb dX2_isKey_39 rfl (lv_at hl 4 rfl) ?_
          refine fj_ge (tgt := 85) hx hb dX2_isKey_40 (by decide) (fun z_7 => absurd (nI_lt (a := i5) (b := n) (by omega) (by omega)) z_7) (fun _ => ?_)
          refine lv_iload_n hx hb dX2_isKey_43 rfl (lv_at hl 1 rfl) ?_
          refine lv_if_eq (tgt := 85) hx hb dX2_isKey_44 (by decide) (fun z_8 => absurd z_8 (by decide)) (fun _ => ?_)
          refine va_ldcS hx hb hown (hX.2.2.1.str (i := 0) q1091 (by decide) rfl) dX2_isKey_47 ?_
          refine lv_bipush (v := 7) hx hb dX2_isKey_49 rfl ?_
          refine lv_iload_n hx hb dX2_isKey_51 rfl (lv_at hl 3 rfl) ?_
          refine lv_imul hx hb dX2_isKey_52 ?_
          refine lv_iload hx hb dX2_isKey_53 (lv_at hl 0 rfl) ?_
          refine lv_iadd hx hb dX2_isKey_55 ?_
          rw [key_at]
          refine fc_V (As := [.int (nI (7 * k + i5))]) (rest := []) hx hb hml hown hts hX hC (m_J6_charAt 0 (by decide) (7 * k + i5) (show 7 * k + i5 < 126 by omega)) (lw_V q1092 q1093 q1094 q129 q1095) hdV_J6_charAt ⟨rfl, rfl⟩ ⟨Nat.le_of_ble_eq_true rfl, Nat.le_of_ble_eq_true rfl⟩ (vk_recv hX.2.2.2.1 (by decide) hC.2) hl.1 rfl (Nat.le_of_ble_eq_true rfl) ⟨Nat.zero_le _, Nat.zero_le _⟩ dX2_isKey_56 (fun _ H locs hC => ?_)
          refine W.eq (g2 := F0 m 59 ls [.int (p_chr 0 (7 * k + i5))]) rfl ?_
          refine lv_aload_n hx hb dX2_isKey_59 rfl (lv_at hl 2 rfl) ?_
          refine lv_aload_n hx hb dX2_isKey_60 rfl (lv_at hl 2 rfl) ?_
          refine fg_get (C := RX2) (T := TX2) (N := 8) (ci := 3) (g := 5) (i := 2) (v := .int (nI b)) hx hb hown hts hX hC in_X2 rfl (cin rfl) rfl 5 (by decide) q293 (fun _ h => h) rfl dX2_isKey_61 ?_
          refine lv_iload hx hb dX2_isKey_64 (lv_at hl 0 rfl) ?_
          refine lv_iadd hx hb dX2_isKey_66 ?_
          rw [nI_add]
          refine fc_V (As := [.int (nI (b + i5))]) (rest := [.int (p_chr 0 (7 * k + i5))]) hx hb hml hown hts hX hC (m_X2_byteAt (sc := sc) (L := L) (a := a) (b := b) (t := t) (v := v) hL (b + i5) (by omega)) (lw_V q1075 q1077 qs37 q113 q1078) hdV_X2_byteAt ⟨rfl, rfl⟩ ⟨Nat.le_of_ble_eq_true rfl, Nat.le_of_ble_eq_true rfl⟩ (fx_recv (g := 5) (i := 2) (ci := 3) (q := (RX2, TX2, 8)) hX hC (cin rfl) rfl rfl) hl.1 rfl (Nat.le_of_ble_eq_true rfl) ⟨Nat.zero_le _, Nat.zero_le _⟩ dX2_isKey_67 (fun _ H locs hC => ?_)
          refine W.eq (g2 := F0 m 70 ls [.int (p_byte tp L (b + i5)), .int (p_chr 0 (7 * k + i5))]) rfl ?_
          refine lv_icmp_ne (tgt := 77) hx hb dX2_isKey_70 (by decide) (fun c_11 => ?_) (fun c_11 => ?_)
          · refine lv_iconst (v := 0) hx hb dX2_isKey_77 rfl ?_
            refine lv_istore_n (lv' := [(3, .int 0), (4, .int (nI i5)), (0, .ref (G.ad 5 2)), (1, .int (nI k)), (2, .int (nI n))]) hx hb dX2_isKey_78 rfl hl (by decide) rfl (fun ls hl => ?_)
            refine lv_iinc (v := nI (i5 + 1)) (lv' := [(4, .int (nI (i5 + 1))), (3, .int 0), (0, .ref (G.ad 5 2)), (1, .int (nI k)), (2, .int (nI n))]) hx hb dX2_isKey_79 hl (k := 1) rfl (nI_1 _) (by decide) rfl (fun ls hl => ?_)
            refine lv_goto (tgt := 37) hx hb dX2_isKey_82 (by decide) ?_
            refine lv_iload hx hb dX2_isKey_37 (lv_at hl 0 rfl) ?_
            refine lv_iload_n hx hb dX2_isKey_39 rfl (lv_at hl 4 rfl) ?_
            refine fj_ge (tgt := 85) hx hb dX2_isKey_40 (by decide) (fun c_12 => ?_) (fun c_12 => ?_)
            · refine lv_iload_n hx hb dX2_isKey_85 rfl (lv_at hl 1 rfl) ?_
              exact fr_z hx hb hr rfl hlocks hX hC () (congrArg (fun z => some (Value.int z)) (b2i_f (fun z => c_11 (z.2.2 i5 (by omega))))) rfl dX2_isKey_86
            · refine lv_iload_n hx hb dX2_isKey_43 rfl (lv_at hl 1 rfl) ?_
              refine lv_if_eq (tgt := 85) hx hb dX2_isKey_44 (by decide) (fun _ => ?_) (fun z_13 => absurd (by decide) z_13)
              refine lv_iload_n hx hb dX2_isKey_85 rfl (lv_at hl 1 rfl) ?_
              exact fr_z hx hb hr rfl hlocks hX hC () (congrArg (fun z => some (Value.int z)) (b2i_f (fun z => c_11 (z.2.2 i5 (by omega))))) rfl dX2_isKey_86
          · refine lv_iconst (v := 1) hx hb dX2_isKey_73 rfl ?_
            refine lv_goto (tgt := 78) hx hb dX2_isKey_74 (by decide) ?_
            refine lv_istore_n (lv' := [(3, .int 1), (4, .int (nI i5)), (0, .ref (G.ad 5 2)), (1, .int (nI k)), (2, .int (nI n))]) hx hb dX2_isKey_78 rfl hl (by decide) rfl (fun ls hl => ?_)
            refine lv_iinc (v := nI (i5 + 1)) (lv' := [(4, .int (nI (i5 + 1))), (3, .int 1), (0, .ref (G.ad 5 2)), (1, .int (nI k)), (2, .int (nI n))]) hx hb dX2_isKey_79 hl (k := 1) rfl (nI_1 _) (by decide) rfl (fun ls hl => ?_)
            refine lv_goto (tgt := 37) hx hb dX2_isKey_82 (by decide) ?_
            exact ih5 (i5 + 1) (by omega) (fun j hj9 => by rcases Nat.lt_or_ge j i5 with z | z; exact hJ5 j z; obtain rfl : j = i5 := (by omega); exact c_11) _ _ hC ls (lv_sub hl [0, 1, 2, 3, 4] rfl)
      exact L_5 n 0 (Nat.zero_add _) (fun _ z => absurd z (Nat.not_lt_zero _)) _ _ hC ls (lv_sub hl [0, 1, 2, 3, 4] rfl)
    · have hne : ¬ n = 7 := fun z => c_4 (by rw [z]; rfl)
      refine va_ldcS hx hb hown (hX.2.2.1.str (i := 0) q1091 (by decide) rfl) dX2_isKey_12 ?_
      refine lv_bipush (v := 7) hx hb dX2_isKey_14 rfl ?_
      refine lv_iload_n hx hb dX2_isKey_16 rfl (lv_at hl 1 rfl) ?_
      refine lv_imul hx hb dX2_isKey_17 ?_
      refine lv_iload_n hx hb dX2_isKey_18 rfl (lv_at hl 2 rfl) ?_
      refine lv_iadd hx hb dX2_isKey_19 ?_
      rw [key_at]
      refine fc_V (As := [.int (nI (7 * k + n))]) (rest := []) hx hb hml hown hts hX hC (m_J6_charAt 0 (by decide) (7 * k + n) (show 7 * k + n < 126 by omega)) (lw_V q1092 q1093 q1094 q129 q1095) hdV_J6_charAt ⟨rfl, rfl⟩ ⟨Nat.le_of_ble_eq_true rfl, Nat.le_of_ble_eq_true rfl⟩ (vk_recv hX.2.2.2.1 (by decide) hC.2) hl.1 rfl (Nat.le_of_ble_eq_true rfl) ⟨Nat.zero_le _, Nat.zero_le _⟩ dX2_isKey_20 (fun _ H locs hC => ?_)
      refine W.eq (g2 := F0 m 23 ls [.int (p_chr 0 (7 * k + n))]) rfl ?_
      refine lv_bipush (v := 32) hx hb dX2_isKey_23 rfl ?_
      refine lv_icmp_ne (tgt := 32) hx hb dX2_isKey_25 (by decide) (fun c_15 => ?_) (fun c_15 => ?_)
      · refine lv_iconst (v := 0) hx hb dX2_isKey_32 rfl ?_
        refine lv_istore_n (lv' := [(3, .int 0), (0, .ref (G.ad 5 2)), (1, .int (nI k)), (2, .int (nI n))]) hx hb dX2_isKey_33 rfl hl (by decide) rfl (fun ls hl => ?_)
        refine lv_iconst (v := 0) hx hb dX2_isKey_34 rfl ?_
        refine lv_istore (lv' := [(4, .int 0), (3, .int 0), (0, .ref (G.ad 5 2)), (1, .int (nI k)), (2, .int (nI n))]) hx hb dX2_isKey_35 hl (by decide) rfl (fun ls hl => ?_)
        refine lv_iload hx hb dX2_isKey_37 (lv_at hl 0 rfl) ?_
        refine lv_iload_n hx hb dX2_isKey_39 rfl (lv_at hl 4 rfl) ?_
        refine fj_ge (tgt := 85) hx hb dX2_isKey_40 (by decide) (fun c_16 => ?_) (fun c_16 => ?_)
        · refine lv_iload_n hx hb dX2_isKey_85 rfl (lv_at hl 1 rfl) ?_
          exact fr_z hx hb hr rfl hlocks hX hC () (congrArg (fun z => some (Value.int z)) (b2i_f (fun z => z.2.1.elim hne c_15))) rfl dX2_isKey_86
        · refine lv_iload_n hx hb dX2_isKey_43 rfl (lv_at hl 1 rfl) ?_
          refine lv_if_eq (tgt := 85) hx hb dX2_isKey_44 (by decide) (fun _ => ?_) (fun z_17 => absurd (by decide) z_17)
          refine lv_iload_n hx hb dX2_isKey_85 rfl (lv_at hl 1 rfl) ?_
          exact fr_z hx hb hr rfl hlocks hX hC () (congrArg (fun z => some (Value.int z)) (b2i_f (fun z => z.2.1.elim hne c_15))) rfl dX2_isKey_86
      · refine lv_iconst (v := 1) hx hb dX2_isKey_28 rfl ?_
        refine lv_goto (tgt := 33) hx hb dX2_isKey_29 (by decide) ?_
        refine lv_istore_n (lv' := [(3, .int 1), (0, .ref (G.ad 5 2)), (1, .int (nI k)), (2, .int (nI n))]) hx hb dX2_isKey_33 rfl hl (by decide) rfl (fun ls hl => ?_)
        refine lv_iconst (v := 0) hx hb dX2_isKey_34 rfl ?_
        refine lv_istore (lv' := [(4, .int 0), (3, .int 1), (0, .ref (G.ad 5 2)), (1, .int (nI k)), (2, .int (nI n))]) hx hb dX2_isKey_35 hl (by decide) rfl (fun ls hl => ?_)
        have hn7b : n ≤ 7 := hn7
        have L_18 : ∀ (j18 i18 : Nat), i18 + j18 = n → (∀ j, j < i18 → p_chr 0 (7 * k + j) = p_byte tp L (b + j)) → ∀ (H : Heap) (locs : List Loc), fC (cF G) (cct G (pg d kp as un to (rd sc L a b t v) fd tp sh) sp) s.heap H locs → ∀ ls : Array Slot, lv_has ls 5 [(4, .int (nI i18)), (3, .int 1), (0, .ref (G.ad 5 2)), (1, .int (nI k)), (2, .int (nI n))] → WG p l e ({ frames := 4, cells := 0, slots := 0, locals := 85 }) s m (([.ref (G.ad 5 2), .int (nI k), .int (nI n)] : List Value).toArray) below meth c H locs (cF G) (fun _ : Unit => some (.int (b2i (p_key tp L b k n)))) (fun _ => cct G (pg d kp as un to (rd sc L a b t v) fd tp sh) sp) (F0 m 37 ls []) := by
          intro j18
          induction j18 with
          | zero =>
            intro i18 hi18 hJ18 H locs hC ls hl
            refine lv_iload hx hb dX2_isKey_37 (lv_at hl 0 rfl) ?_
            refine lv_iload_n hx hb dX2_isKey_39 rfl (lv_at hl 4 rfl) ?_
            refine fj_ge (tgt := 85) hx hb dX2_isKey_40 (by decide) (fun _ => ?_) (fun z_19 => absurd z_19 (nI_nlt (a := i18) (b := n) (by omega) (by omega)))
            refine lv_iload_n hx hb dX2_isKey_85 rfl (lv_at hl 1 rfl) ?_
            exact fr_z hx hb hr rfl hlocks hX hC () (congrArg (fun z => some (Value.int z)) (b2i_t (⟨hn7, Or.inr c_15, fun j hj9 => hJ18 j (by omega)⟩))) rfl dX2_isKey_86
          | succ j18 ih18 =>
            intro i18 hi18 hJ18 H locs hC ls hl
            refine lv_iload hx hb dX2_isKey_37 (lv_at hl 0 rfl) ?_
            refine lv_iload_n hx hb dX2_isKey_39 rfl (lv_at hl 4 rfl) ?_
            refine fj_ge (tgt := 85) hx hb dX2_isKey_40 (by decide) (fun z_20 => absurd (nI_lt (a := i18) (b := n) (by omega) (by omega)) z_20) (fun _ => ?_)
            refine lv_iload_n hx hb dX2_isKey_43 rfl (lv_at hl 1 rfl) ?_
            refine lv_if_eq (tgt := 85) hx hb dX2_isKey_44 (by decide) (fun z_21 => absurd z_21 (by decide)) (fun _ => ?_)
            refine va_ldcS hx hb hown (hX.2.2.1.str (i := 0) q1091 (by decide) rfl) dX2_isKey_47 ?_
            refine lv_bipush (v := 7) hx hb dX2_isKey_49 rfl ?_
            refine lv_iload_n hx hb dX2_isKey_51 rfl (lv_at hl 3 rfl) ?_
            refine lv_imul hx hb dX2_isKey_52 ?_
            refine lv_iload hx hb dX2_isKey_53 (lv_at hl 0 rfl) ?_
            refine lv_iadd hx hb dX2_isKey_55 ?_
            rw [key_at]
            refine fc_V (As := [.int (nI (7 * k + i18))]) (rest := []) hx hb hml hown hts hX hC (m_J6_charAt 0 (by decide) (7 * k + i18) (show 7 * k + i18 < 126 by omega)) (lw_V q1092 q1093 q1094 q129 q1095) hdV_J6_charAt ⟨rfl, rfl⟩ ⟨Nat.le_of_ble_eq_true rfl, Nat.le_of_ble_eq_true rfl⟩ (vk_recv hX.2.2.2.1 (by decide) hC.2) hl.1 rfl (Nat.le_of_ble_eq_true rfl) ⟨Nat.zero_le _, Nat.zero_le _⟩ dX2_isKey_56 (fun _ H locs hC => ?_)
            refine W.eq (g2 := F0 m 59 ls [.int (p_chr 0 (7 * k + i18))]) rfl ?_
            refine lv_aload_n hx hb dX2_isKey_59 rfl (lv_at hl 2 rfl) ?_
            refine lv_aload_n hx hb dX2_isKey_60 rfl (lv_at hl 2 rfl) ?_
            refine fg_get (C := RX2) (T := TX2) (N := 8) (ci := 3) (g := 5) (i := 2) (v := .int (nI b)) hx hb hown hts hX hC in_X2 rfl (cin rfl) rfl 5 (by decide) q293 (fun _ h => h) rfl dX2_isKey_61 ?_
            refine lv_iload hx hb dX2_isKey_64 (lv_at hl 0 rfl) ?_
            refine lv_iadd hx hb dX2_isKey_66 ?_
            rw [nI_add]
            refine fc_V (As := [.int (nI (b + i18))]) (rest := [.int (p_chr 0 (7 * k + i18))]) hx hb hml hown hts hX hC (m_X2_byteAt (sc := sc) (L := L) (a := a) (b := b) (t := t) (v := v) hL (b + i18) (by omega)) (lw_V q1075 q1077 qs37 q113 q1078) hdV_X2_byteAt ⟨rfl, rfl⟩ ⟨Nat.le_of_ble_eq_true rfl, Nat.le_of_ble_eq_true rfl⟩ (fx_recv (g := 5) (i := 2) (ci := 3) (q := (RX2, TX2, 8)) hX hC (cin rfl) rfl rfl) hl.1 rfl (Nat.le_of_ble_eq_true rfl) ⟨Nat.zero_le _, Nat.zero_le _⟩ dX2_isKey_67 (fun _ H locs hC => ?_)
            refine W.eq (g2 := F0 m 70 ls [.int (p_byte tp L (b + i18)), .int (p_chr 0 (7 * k + i18))]) rfl ?_
            refine lv_icmp_ne (tgt := 77) hx hb dX2_isKey_70 (by decide) (fun c_24 => ?_) (fun c_24 => ?_)
            · refine lv_iconst (v := 0) hx hb dX2_isKey_77 rfl ?_
              refine lv_istore_n (lv' := [(3, .int 0), (4, .int (nI i18)), (0, .ref (G.ad 5 2)), (1, .int (nI k)), (2, .int (nI n))]) hx hb dX2_isKey_78 rfl hl (by decide) rfl (fun ls hl => ?_)
              refine lv_iinc (v := nI (i18 + 1)) (lv' := [(4, .int (nI (i18 + 1))), (3, .int 0), (0, .ref (G.ad 5 2)), (1, .int (nI k)), (2, .int (nI n))]) hx hb dX2_isKey_79 hl (k := 1) rfl (nI_1 _) (by decide) rfl (fun ls hl => ?_)
              refine lv_goto (tgt := 37) hx hb dX2_isKey_82 (by decide) ?_
              refine lv_iload hx hb dX2_isKey_37 (lv_at hl 0 rfl) ?_
              refine lv_iload_n hx hb dX2_isKey_39 rfl (lv_at hl 4 rfl) ?_
              refine fj_ge (tgt := 85) hx hb dX2_isKey_40 (by decide) (fun c_25 => ?_) (fun c_25 => ?_)
              · refine lv_iload_n hx hb dX2_isKey_85 rfl (lv_at hl 1 rfl) ?_
                exact fr_z hx hb hr rfl hlocks hX hC () (congrArg (fun z => some (Value.int z)) (b2i_f (fun z => c_24 (z.2.2 i18 (by omega))))) rfl dX2_isKey_86
              · refine lv_iload_n hx hb dX2_isKey_43 rfl (lv_at hl 1 rfl) ?_
                refine lv_if_eq (tgt := 85) hx hb dX2_isKey_44 (by decide) (fun _ => ?_) (fun z_26 => absurd (by decide) z_26)
                refine lv_iload_n hx hb dX2_isKey_85 rfl (lv_at hl 1 rfl) ?_
                exact fr_z hx hb hr rfl hlocks hX hC () (congrArg (fun z => some (Value.int z)) (b2i_f (fun z => c_24 (z.2.2 i18 (by omega))))) rfl dX2_isKey_86
            · refine lv_iconst (v := 1) hx hb dX2_isKey_73 rfl ?_
              refine lv_goto (tgt := 78) hx hb dX2_isKey_74 (by decide) ?_
              refine lv_istore_n (lv' := [(3, .int 1), (4, .int (nI i18)), (0, .ref (G.ad 5 2)), (1, .int (nI k)), (2, .int (nI n))]) hx hb dX2_isKey_78 rfl hl (by decide) rfl (fun ls hl => ?_)
              refine lv_iinc (v := nI (i18 + 1)) (lv' := [(4, .int (nI (i18 + 1))), (3, .int 1), (0, .ref (G.ad 5 2)), (1, .int (nI k)), (2, .int (nI n))]) hx hb dX2_isKey_79 hl (k := 1) rfl (nI_1 _) (by decide) rfl (fun ls hl => ?_)
              refine lv_goto (tgt := 37) hx hb dX2_isKey_82 (by decide) ?_
              exact ih18 (i18 + 1) (by omega) (fun j hj9 => by rcases Nat.lt_or_ge j i18 with z | z; exact hJ18 j z; obtain rfl : j = i18 := (by omega); exact c_24) _ _ hC ls (lv_sub hl [0, 1, 2, 3, 4] rfl)
        exact L_18 n 0 (Nat.zero_add _) (fun _ z => absurd z (Nat.not_lt_zero _)) _ _ hC ls (lv_sub hl [0, 1, 2, 3, 4] rfl)
