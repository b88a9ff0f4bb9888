theorem hdV_J6_length : yJ6_length.cls = RJ6 ∧ yJ6_length.cls ≠ "java/lang/invoke/MethodHandle" ∧ yJ6_length.cls ≠ "java/lang/invoke/VarHandle" ∧ (parseMethodDescriptor yJ6_length.desc).map (fun d => d.parameters.length) = some 0 := by decide +kernel
theorem hdV_X13_next : yX13_next.cls = RX13 ∧ yX13_next.cls ≠ "java/lang/invoke/MethodHandle" ∧ yX13_next.cls ≠ "java/lang/invoke/VarHandle" ∧ (parseMethodDescriptor yX13_next.desc).map (fun d => d.parameters.length) = some 0 := by decide +kernel
theorem hdV_X13_must : yX13_must.cls = RX13 ∧ yX13_must.cls ≠ "java/lang/invoke/MethodHandle" ∧ yX13_must.cls ≠ "java/lang/invoke/VarHandle" ∧ (parseMethodDescriptor yX13_must.desc).map (fun d => d.parameters.length) = some 1 := by decide +kernel
set_option maxRecDepth 100000 in
theorem m_X13_isWord {l : Launch} {G : Gm} {d kp as bf sc fd tp it ws sz nu mv : Row} {L im : Nat} {S : MSt} {sn : Int32} (hL : L ≤ 120) (hS : SI L S) (i0 : Nat) (hi : i0 < 19) : Cm l yX13_isWord (ws_ yX13_isWord cX13_isWord 4 (some .boolean)) ({ frames := 4, cells := 0, slots := 0, locals := 85 }) (mF G) [.ref (G.ad 0 0), .ref (G.adK i0)] (mct G (mpg d kp as bf (md sc L S im sn) fd tp it ws sz nu mv)) (fun _ : Unit => some (.int (b2i (p_wd tp i0 S)))) (fun _ => mct G (mpg d kp as bf (md sc L S im sn) fd tp it ws sz nu mv)) := by
  refine Cm.start (by decide) (Nat.le_of_ble_eq_true rfl) ?_
  intro p e s m below meth c hf hX hC ls hl
  obtain ⟨hx, hb, hr, hml, hown, hts, hlocks⟩ := hf
  have hl : lv_has ls 4 [(0, .ref (G.ad 0 0)), (1, .ref (G.adK i0))] := hl
  have hown : s.vm.findClass "OwlEarsModel" = some m.cls := hown
  have h9 := slen_le i0 hi
  refine lv_aload_n hx hb dX13_isWord_0 rfl (lv_at hl 0 rfl) ?_
  refine fg_get (C := RX13) (T := TX13) (N := 24) (ci := 0) (g := 0) (i := 0) (v := .int S.so) hx hb hown hts hX hC in_X13 rfl (min_ (by decide)) rfl 12 (by decide) q1322 (fun _ h => h) rfl dX13_isWord_1 ?_
  refine lv_iconst (v := 1) hx hb dX13_isWord_4 rfl ?_
  refine lv_icmp_ne (tgt := 28) hx hb dX13_isWord_5 (by decide) (fun c_1 => ?_) (fun c_1 => ?_)
  · refine lv_iconst (v := 0) hx hb dX13_isWord_28 rfl ?_
    refine lv_istore_n (lv' := [(2, .int 0), (0, .ref (G.ad 0 0)), (1, .ref (G.adK i0))]) hx hb dX13_isWord_29 rfl hl (by decide) rfl (fun ls hl => ?_)
    refine lv_iconst (v := 0) hx hb dX13_isWord_30 rfl ?_
    refine lv_istore_n (lv' := [(3, .int 0), (2, .int 0), (0, .ref (G.ad 0 0)), (1, .ref (G.adK i0))]) hx hb dX13_isWord_31 rfl hl (by decide) rfl (fun ls hl => ?_)
    refine lv_iload_n hx hb dX13_isWord_32 rfl (lv_at hl 0 rfl) ?_
    refine lv_aload_n hx hb dX13_isWord_33 rfl (lv_at hl 3 rfl) ?_
    refine fc_V (As := []) (rest := [.int 0]) hx hb hml hown hts hX hC (m_J6_length i0 hi) (lw_V q1760 q1761 q1762 q129 q1763) hdV_J6_length ⟨rfl, rfl⟩ ⟨Nat.le_of_ble_eq_true rfl, Nat.le_of_ble_eq_true rfl⟩ (vk_recv hX.2.2.2.1 hi hC.2) hl.1 rfl (Nat.le_of_ble_eq_true rfl) ⟨Nat.zero_le _, Nat.zero_le _⟩ dX13_isWord_34 (fun _ H locs hC => ?_)
    refine W.eq (g2 := F0 m 37 ls [.int (nI ((slen.getD i0 0))), .int 0]) rfl ?_
    refine fj_ge (tgt := 75) hx hb dX13_isWord_37 (by decide) (fun c_3 => ?_) (fun c_3 => ?_)
    · refine lv_iload_n hx hb dX13_isWord_75 rfl (lv_at hl 1 rfl) ?_
      exact fr_z hx hb hr rfl hlocks hX hC () (congrArg (fun z => some (Value.int z)) (b2i_f (fun z => c_1 z.1))) rfl dX13_isWord_76
    · refine lv_iload_n hx hb dX13_isWord_40 rfl (lv_at hl 1 rfl) ?_
      refine lv_if_eq (tgt := 75) hx hb dX13_isWord_41 (by decide) (fun _ => ?_) (fun z_4 => absurd (by decide) z_4)
      refine lv_iload_n hx hb dX13_isWord_75 rfl (lv_at hl 1 rfl) ?_
      exact fr_z hx hb hr rfl hlocks hX hC () (congrArg (fun z => some (Value.int z)) (b2i_f (fun z => c_1 z.1))) rfl dX13_isWord_76
  · refine lv_aload_n hx hb dX13_isWord_8 rfl (lv_at hl 0 rfl) ?_
    refine fg_get (C := RX13) (T := TX13) (N := 24) (ci := 0) (g := 0) (i := 0) (v := .int (nI S.en)) hx hb hown hts hX hC in_X13 rfl (min_ (by decide)) rfl 11 (by decide) q1321 (fun _ h => h) rfl dX13_isWord_9 ?_
    refine lv_aload_n hx hb dX13_isWord_12 rfl (lv_at hl 0 rfl) ?_
    refine fg_get (C := RX13) (T := TX13) (N := 24) (ci := 0) (g := 0) (i := 0) (v := .int (nI S.bg)) hx hb hown hts hX hC in_X13 rfl (min_ (by decide)) rfl 10 (by decide) q1320 (fun _ h => h) rfl dX13_isWord_13 ?_
    refine lv_isub hx hb dX13_isWord_16 ?_
    refine lv_aload_n hx hb dX13_isWord_17 rfl (lv_at hl 1 rfl) ?_
    refine fc_V (As := []) (rest := [.int ((nI S.en) - (nI S.bg))]) hx hb hml hown hts hX hC (m_J6_length i0 hi) (lw_V q1760 q1761 q1762 q129 q1763) hdV_J6_length ⟨rfl, rfl⟩ ⟨Nat.le_of_ble_eq_true rfl, Nat.le_of_ble_eq_true rfl⟩ (vk_recv hX.2.2.2.1 hi hC.2) hl.1 rfl (Nat.le_of_ble_eq_true rfl) ⟨Nat.zero_le _, Nat.zero_le _⟩ dX13_isWord_18 (fun _ H locs hC => ?_)
    refine W.eq (g2 := F0 m 21 ls [.int (nI ((slen.getD i0 0))), .int ((nI S.en) - (nI S.bg))]) rfl ?_
    refine lv_icmp_ne (tgt := 28) hx hb dX13_isWord_21 (by decide) (fun c_6 => ?_) (fun c_6 => ?_)
    · refine lv_iconst (v := 0) hx hb dX13_isWord_28 rfl ?_
      refine lv_istore_n (lv' := [(2, .int 0), (0, .ref (G.ad 0 0)), (1, .ref (G.adK i0))]) hx hb dX13_isWord_29 rfl hl (by decide) rfl (fun ls hl => ?_)
      refine lv_iconst (v := 0) hx hb dX13_isWord_30 rfl ?_
      refine lv_istore_n (lv' := [(3, .int 0), (2, .int 0), (0, .ref (G.ad 0 0)), (1, .ref (G.adK i0))]) hx hb dX13_isWord_31 rfl hl (by decide) rfl (fun ls hl => ?_)
      refine lv_iload_n hx hb dX13_isWord_32 rfl (lv_at hl 0 rfl) ?_
      refine lv_aload_n hx hb dX13_isWord_33 rfl (lv_at hl 3 rfl) ?_
      refine fc_V (As := []) (rest := [.int 0]) hx hb hml hown hts hX hC (m_J6_length i0 hi) (lw_V q1760 q1761 q1762 q129 q1763) hdV_J6_length ⟨rfl, rfl⟩ ⟨Nat.le_of_ble_eq_true rfl, Nat.le_of_ble_eq_true rfl⟩ (vk_recv hX.2.2.2.1 hi hC.2) hl.1 rfl (Nat.le_of_ble_eq_true rfl) ⟨Nat.zero_le _, Nat.zero_le _⟩ dX13_isWord_34 (fun _ H locs hC => ?_)
      refine W.eq (g2 := F0 m 37 ls [.int (nI ((slen.getD i0 0))), .int 0]) rfl ?_
      refine fj_ge (tgt := 75) hx hb dX13_isWord_37 (by decide) (fun c_8 => ?_) (fun c_8 => ?_)
      · refine lv_iload_n hx hb dX13_isWord_75 rfl (lv_at hl 1 rfl) ?_
        exact fr_z hx hb hr rfl hlocks hX hC () (congrArg (fun z => some (Value.int z)) (b2i_f (fun z => c_6 ((sub_nI hS.1 (by have := hS.2.1; omega) (by omega)).mpr z.2.1)))) rfl dX13_isWord_76
      · refine lv_iload_n hx hb dX13_isWord_40 rfl (lv_at hl 1 rfl) ?_
        refine lv_if_eq (tgt := 75) hx hb dX13_isWord_41 (by decide) (fun _ => ?_) (fun z_9 => absurd (by decide) z_9)
        refine lv_iload_n hx hb dX13_isWord_75 rfl (lv_at hl 1 rfl) ?_
        exact fr_z hx hb hr rfl hlocks hX hC () (congrArg (fun z => some (Value.int z)) (b2i_f (fun z => c_6 ((sub_nI hS.1 (by have := hS.2.1; omega) (by omega)).mpr z.2.1)))) rfl dX13_isWord_76
    · have hen := (sub_nI hS.1 (by have := hS.2.1; omega) (by omega)).mp c_6
      refine lv_iconst (v := 1) hx hb dX13_isWord_24 rfl ?_
      refine lv_goto (tgt := 29) hx hb dX13_isWord_25 (by decide) ?_
      refine lv_istore_n (lv' := [(2, .int 1), (0, .ref (G.ad 0 0)), (1, .ref (G.adK i0))]) hx hb dX13_isWord_29 rfl hl (by decide) rfl (fun ls hl => ?_)
      refine lv_iconst (v := 0) hx hb dX13_isWord_30 rfl ?_
      refine lv_istore_n (lv' := [(3, .int 0), (2, .int 1), (0, .ref (G.ad 0 0)), (1, .ref (G.adK i0))]) hx hb dX13_isWord_31 rfl hl (by decide) rfl (fun ls hl => ?_)
      have L_10 : ∀ (j10 i10 : Nat), i10 + j10 = slen.getD i0 0 → (∀ j, j < i10 → mt tp (S.bg + j) = p_chr i0 j) → ∀ (H : Heap) (locs : List Loc), fC (mF G) (mct G (mpg d kp as bf (md sc L S im sn) fd tp it ws sz nu mv)) s.heap H locs → ∀ ls : Array Slot, lv_has ls 4 [(3, .int (nI i10)), (2, .int 1), (0, .ref (G.ad 0 0)), (1, .ref (G.adK i0))] → WG p l e ({ frames := 4, cells := 0, slots := 0, locals := 85 }) s m (([.ref (G.ad 0 0), .ref (G.adK i0)] : List Value).toArray) below meth c H locs (mF G) (fun _ : Unit => some (.int (b2i (p_wd tp i0 S)))) (fun _ => mct G (mpg d kp as bf (md sc L S im sn) fd tp it ws sz nu mv)) (F0 m 32 ls []) := by
        intro j10
        induction j10 with
        | zero =>
          intro i10 hi10 hJ10 H locs hC ls hl
          refine lv_iload_n hx hb dX13_isWord_32 rfl (lv_at hl 0 rfl) ?_
          refine lv_aload_n hx hb dX13_isWord_33 rfl (lv_at hl 3 rfl) ?_
          refine fc_V (As := []) (rest := [.int (nI i10)]) hx hb hml hown hts hX hC (m_J6_length i0 hi) (lw_V q1760 q1761 q1762 q129 q1763) hdV_J6_length ⟨rfl, rfl⟩ ⟨Nat.le_of_ble_eq_true rfl, Nat.le_of_ble_eq_true rfl⟩ (vk_recv hX.2.2.2.1 hi hC.2) hl.1 rfl (Nat.le_of_ble_eq_true rfl) ⟨Nat.zero_le _, Nat.zero_le _⟩ dX13_isWord_34 (fun _ H locs hC => ?_)
          refine W.eq (g2 := F0 m 37 ls [.int (nI ((slen.getD i0 0))), .int (nI i10)]) rfl ?_
          refine fj_ge (tgt := 75) hx hb dX13_isWord_37 (by decide) (fun _ => ?_) (fun z_12 => absurd z_12 (nI_nlt (a := i10) (b := slen.getD i0 0) (by omega) (by omega)))
          refine lv_iload_n hx hb dX13_isWord_75 rfl (lv_at hl 1 rfl) ?_
          exact fr_z hx hb hr rfl hlocks hX hC () (congrArg (fun z => some (Value.int z)) (b2i_t (⟨c_1, (sub_nI hS.1 (by have := hS.2.1; omega) (by omega)).mp c_6, fun j hj9 => hJ10 j (by omega)⟩))) rfl dX13_isWord_76
        | succ j10 ih10 =>
          intro i10 hi10 hJ10 H locs hC ls hl
          refine lv_iload_n hx hb dX13_isWord_32 rfl (lv_at hl 0 rfl) ?_
          refine lv_aload_n hx hb dX13_isWord_33 rfl (lv_at hl 3 rfl) ?_
          refine fc_V (As := []) (rest := [.int (nI i10)]) hx hb hml hown hts hX hC (m_J6_length i0 hi) (lw_V q1760 q1761 q1762 q129 q1763) hdV_J6_length ⟨rfl, rfl⟩ ⟨Nat.le_of_ble_eq_true rfl, Nat.le_of_ble_eq_true rfl⟩ (vk_recv hX.2.2.2.1 hi hC.2) hl.1 rfl (Nat.le_of_ble_eq_true rfl) ⟨Nat.zero_le _, Nat.zero_le _⟩ dX13_isWord_34 (fun _ H locs hC => ?_)
          refine W.eq (g2 := F0 m 37 ls [.int (nI ((slen.getD i0 0))), .int (nI i10)]) rfl ?_
          refine fj_ge (tgt := 75) hx hb dX13_isWord_37 (by decide) (fun z_14 => absurd (nI_lt (a := i10) (b := slen.getD i0 0) (by omega) (by omega)) z_14) (fun _ => ?_)
          refine lv_iload_n hx hb dX13_isWord_40 rfl (lv_at hl 1 rfl) ?_
          refine lv_if_eq (tgt := 75) hx hb dX13_isWord_41 (by decide) (fun z_15 => absurd z_15 (by decide)) (fun _ => ?_)
          refine lv_aload_n hx hb dX13_isWord_44 rfl (lv_at hl 2 rfl) ?_
          refine fg_get (C := RX13) (T := TX13) (N := 24) (ci := 0) (g := 0) (i := 0) (v := .ref (G.ad 0 6)) hx hb hown hts hX hC in_X13 rfl (min_ (by decide)) rfl 8 (by decide) q1318 (fun _ h => h) rfl dX13_isWord_45 ?_
          refine lv_aload_n hx hb dX13_isWord_48 rfl (lv_at hl 2 rfl) ?_
          refine fg_get (C := RX13) (T := TX13) (N := 24) (ci := 0) (g := 0) (i := 0) (v := .int (nI S.bg)) hx hb hown hts hX hC in_X13 rfl (min_ (by decide)) rfl 10 (by decide) q1320 (fun _ h => h) rfl dX13_isWord_49 ?_
          refine lv_iload_n hx hb dX13_isWord_52 rfl (lv_at hl 0 rfl) ?_
          refine lv_iadd hx hb dX13_isWord_53 ?_
          rw [nI_add]
          refine fg_iald (g := 0) (i := 6) (t0 := 0) (v := (mt tp) (S.bg + i10)) hx hb hX hC (min_ (by decide)) rfl rfl (vp_in_nI (show S.bg + i10 < 120 by have := hS.2.1; omega) (by decide)) (congrArg (mt tp) (nI_clamp (by have := hS.2.1; omega))) dX13_isWord_54 ?_
          refine lv_aload_n hx hb dX13_isWord_55 rfl (lv_at hl 3 rfl) ?_
          refine lv_iload_n hx hb dX13_isWord_56 rfl (lv_at hl 0 rfl) ?_
          refine fc_V (As := [.int (nI i10)]) (rest := [.int ((mt tp) (S.bg + i10))]) hx hb hml hown hts hX hC (m_J6_charAt i0 hi i10 (show i10 < slen.getD i0 0 by omega)) (lw_V q1768 q1093 q1094 q129 q1095) hdV_J6_charAt ⟨rfl, rfl⟩ ⟨Nat.le_of_ble_eq_true rfl, Nat.le_of_ble_eq_true rfl⟩ (vk_recv hX.2.2.2.1 hi hC.2) hl.1 rfl (Nat.le_of_ble_eq_true rfl) ⟨Nat.zero_le _, Nat.zero_le _⟩ dX13_isWord_57 (fun _ H locs hC => ?_)
          refine W.eq (g2 := F0 m 60 ls [.int (p_chr i0 i10), .int ((mt tp) (S.bg + i10))]) rfl ?_
          refine lv_icmp_ne (tgt := 67) hx hb dX13_isWord_60 (by decide) (fun c_17 => ?_) (fun c_17 => ?_)
          · refine lv_iconst (v := 0) hx hb dX13_isWord_67 rfl ?_
            refine lv_istore_n (lv' := [(2, .int 0), (3, .int (nI i10)), (0, .ref (G.ad 0 0)), (1, .ref (G.adK i0))]) hx hb dX13_isWord_68 rfl hl (by decide) rfl (fun ls hl => ?_)
            refine lv_iinc (v := nI (i10 + 1)) (lv' := [(3, .int (nI (i10 + 1))), (2, .int 0), (0, .ref (G.ad 0 0)), (1, .ref (G.adK i0))]) hx hb dX13_isWord_69 hl (k := 1) rfl (nI_1 _) (by decide) rfl (fun ls hl => ?_)
            refine lv_goto (tgt := 32) hx hb dX13_isWord_72 (by decide) ?_
            refine lv_iload_n hx hb dX13_isWord_32 rfl (lv_at hl 0 rfl) ?_
            refine lv_aload_n hx hb dX13_isWord_33 rfl (lv_at hl 3 rfl) ?_
            refine fc_V (As := []) (rest := [.int (nI (i10 + 1))]) hx hb hml hown hts hX hC (m_J6_length i0 hi) (lw_V q1760 q1761 q1762 q129 q1763) hdV_J6_length ⟨rfl, rfl⟩ ⟨Nat.le_of_ble_eq_true rfl, Nat.le_of_ble_eq_true rfl⟩ (vk_recv hX.2.2.2.1 hi hC.2) hl.1 rfl (Nat.le_of_ble_eq_true rfl) ⟨Nat.zero_le _, Nat.zero_le _⟩ dX13_isWord_34 (fun _ H locs hC => ?_)
            refine W.eq (g2 := F0 m 37 ls [.int (nI ((slen.getD i0 0))), .int (nI (i10 + 1))]) rfl ?_
            refine fj_ge (tgt := 75) hx hb dX13_isWord_37 (by decide) (fun c_19 => ?_) (fun c_19 => ?_)
            · refine lv_iload_n hx hb dX13_isWord_75 rfl (lv_at hl 1 rfl) ?_
              exact fr_z hx hb hr rfl hlocks hX hC () (congrArg (fun z => some (Value.int z)) (b2i_f (fun z => c_17 (z.2.2 i10 (by omega))))) rfl dX13_isWord_76
            · refine lv_iload_n hx hb dX13_isWord_40 rfl (lv_at hl 1 rfl) ?_
              refine lv_if_eq (tgt := 75) hx hb dX13_isWord_41 (by decide) (fun _ => ?_) (fun z_20 => absurd (by decide) z_20)
              refine lv_iload_n hx hb dX13_isWord_75 rfl (lv_at hl 1 rfl) ?_
              exact fr_z hx hb hr rfl hlocks hX hC () (congrArg (fun z => some (Value.int z)) (b2i_f (fun z => c_17 (z.2.2 i10 (by omega))))) rfl dX13_isWord_76
          · refine lv_iconst (v := 1) hx hb dX13_isWord_63 rfl ?_
            refine lv_goto (tgt := 68) hx hb dX13_isWord_64 (by decide) ?_
            refine lv_istore_n (lv' := [(2, .int 1), (3, .int (nI i10)), (0, .ref (G.ad 0 0)), (1, .ref (G.adK i0))]) hx hb dX13_isWord_68 rfl hl (by decide) rfl (fun ls hl => ?_)
            refine lv_iinc (v := nI (i10 + 1)) (lv' := [(3, .int (nI (i10 + 1))), (2, .int 1), (0, .ref (G.ad 0 0)), (1, .ref (G.adK i0))]) hx hb dX13_isWord_69 hl (k := 1) rfl (nI_1 _) (by decide) rfl (fun ls hl => ?_)
            refine lv_goto (tgt := 32) hx hb dX13_isWord_72 (by decide) ?_
            exact ih10 (i10 + 1) (by omega) (fun j hj9 => by rcases Nat.lt_or_ge j i10 with z | z; exact hJ10 j z; obtain rfl : j = i10 := (by omega); exact c_17) _ _ hC ls (lv_sub hl [0, 1, 2, 3] rfl)
      exact L_10 (slen.getD i0 0) 0 (Nat.zero_add _) (fun _ z => absurd z (Nat.not_lt_zero _)) _ _ hC ls (lv_sub hl [0, 1, 2, 3] rfl)
set_option maxRecDepth 100000 in
theorem m_X13_must {l : Launch} {G : Gm} {d kp as bf sc fd tp it ws sz nu mv : Row} {L im : Nat} {S : MSt} {sn : Int32} (hL : L ≤ 120) (hS : SI L S) (P9 : Prop) [Decidable P9] : Cm l yX13_must (ws_ yX13_must cX13_must 2 none) ({ frames := 2, cells := 0, slots := 0, locals := 43 }) (mF G) [.ref (G.ad 0 0), .int (b2i P9)] (mct G (mpg d kp as bf (md sc L S im sn) fd tp it ws sz nu mv)) (fun _ : Unit => none) (fun _ => mct G (mpg d kp as bf (md sc L (n_must P9 tp L S) im sn) fd tp it ws sz nu mv)) := by
  refine Cm.start (by decide) (Nat.le_of_ble_eq_true rfl) ?_
  intro p e s m below meth c hf hX hC ls hl
  obtain ⟨hx, hb, hr, hml, hown, hts, hlocks⟩ := hf
  have hl : lv_has ls 2 [(0, .ref (G.ad 0 0)), (1, .int (b2i P9))] := hl
  have hown : s.vm.findClass "OwlEarsModel" = some m.cls := hown
  refine lv_aload_n hx hb dX13_must_0 rfl (lv_at hl 0 rfl) ?_
  refine lv_aload_n hx hb dX13_must_1 rfl (lv_at hl 0 rfl) ?_
  refine fg_get (C := RX13) (T := TX13) (N := 24) (ci := 0) (g := 0) (i := 0) (v := .int S.wr) hx hb hown hts hX hC in_X13 rfl (min_ (by decide)) rfl 14 (by decide) q1324 (fun _ h => h) rfl dX13_must_2 ?_
  refine lv_if_ne (tgt := 12) hx hb dX13_must_5 (by decide) (fun c_1 => ?_) (fun c_1 => ?_)
  · refine lv_iconst (v := 1) hx hb dX13_must_12 rfl ?_
    refine lv_goto (tgt := 17) hx hb dX13_must_13 (by decide) ?_
    refine fg_put (C := RX13) (T := TX13) (N := 24) (ci := 0) (g := 0) (i := 0) hx hb hown hts hX hC in_X13 tyX13 tyX13_ok nmX13 rfl (min_ (by decide)) rfl 14 (by decide) q1324 (fun _ h => h) rfl rfl rfl (Nat.le_of_ble_eq_true rfl) (mct G (mpg d kp as bf (md sc L (⟨S.bg, S.en, S.so, S.va, 1⟩ : MSt) im sn) fd tp it ws sz nu mv)) ms_md dX13_must_17 (fun H locs hC => ?_)
    refine lv_aload_n hx hb dX13_must_20 rfl (lv_at hl 0 rfl) ?_
    refine fg_get (C := RX13) (T := TX13) (N := 24) (ci := 0) (g := 0) (i := 0) (v := .int 1) hx hb hown hts hX hC in_X13 rfl (min_ (by decide)) rfl 14 (by decide) q1324 (fun _ h => h) rfl dX13_must_21 ?_
    refine lv_if_ne (tgt := 31) hx hb dX13_must_24 (by decide) (fun _ => ?_) (fun z_2 => absurd z_2 (by decide))
    exact fr_v hx hb hr hlocks hX hC () rfl (congrArg (fun z => mct G (mpg d kp as bf z fd tp it ws sz nu mv)) (by rw [n_must, if_neg (fun z => c_1 z.1)])) dX13_must_31
  · refine lv_iload_n hx hb dX13_must_8 rfl (lv_at hl 1 rfl) ?_
    refine fb_ne (tgt := 16) hx hb dX13_must_9 (by decide) (fun c_3 => ?_) (fun c_3 => ?_)
    · refine lv_iconst (v := 0) hx hb dX13_must_16 rfl ?_
      refine fg_put (C := RX13) (T := TX13) (N := 24) (ci := 0) (g := 0) (i := 0) hx hb hown hts hX hC in_X13 tyX13 tyX13_ok nmX13 rfl (min_ (by decide)) rfl 14 (by decide) q1324 (fun _ h => h) rfl rfl rfl (Nat.le_of_ble_eq_true rfl) (mct G (mpg d kp as bf (md sc L (⟨S.bg, S.en, S.so, S.va, 0⟩ : MSt) im sn) fd tp it ws sz nu mv)) ms_md dX13_must_17 (fun H locs hC => ?_)
      refine lv_aload_n hx hb dX13_must_20 rfl (lv_at hl 0 rfl) ?_
      refine fg_get (C := RX13) (T := TX13) (N := 24) (ci := 0) (g := 0) (i := 0) (v := .int 0) hx hb hown hts hX hC in_X13 rfl (min_ (by decide)) rfl 14 (by decide) q1324 (fun _ h => h) rfl dX13_must_21 ?_
      refine lv_if_ne (tgt := 31) hx hb dX13_must_24 (by decide) (fun z_4 => absurd (by decide) z_4) (fun _ => ?_)
      refine lv_aload_n hx hb dX13_must_27 rfl (lv_at hl 0 rfl) ?_
      refine fc_V (As := []) (rest := []) hx hb hml hown hts hX hC (m_X13_next (sc := sc) (L := L) (S := (⟨S.bg, S.en, S.so, S.va, 0⟩ : MSt)) (im := im) (sn := sn) hL hS.2.1) (lw_V q1740 q1742 qs93 q124 q1743) hdV_X13_next ⟨rfl, rfl⟩ ⟨Nat.le_of_ble_eq_true rfl, Nat.le_of_ble_eq_true rfl⟩ (fx_recv (g := 0) (i := 0) (ci := 0) (q := (RX13, TX13, 24)) hX hC (min_ (by decide)) rfl rfl) hl.1 rfl (Nat.le_of_ble_eq_true rfl) ⟨Nat.zero_le _, Nat.zero_le _⟩ dX13_must_28 (fun _ H locs hC => ?_)
      refine W.eq (g2 := F0 m 31 ls []) rfl ?_
      exact fr_v hx hb hr hlocks hX hC () rfl (congrArg (fun z => mct G (mpg d kp as bf z fd tp it ws sz nu mv)) (by rw [n_must, if_pos ⟨c_1, c_3⟩, n_next, n_next, c_1])) dX13_must_31
    · refine lv_iconst (v := 1) hx hb dX13_must_12 rfl ?_
      refine lv_goto (tgt := 17) hx hb dX13_must_13 (by decide) ?_
      refine fg_put (C := RX13) (T := TX13) (N := 24) (ci := 0) (g := 0) (i := 0) hx hb hown hts hX hC in_X13 tyX13 tyX13_ok nmX13 rfl (min_ (by decide)) rfl 14 (by decide) q1324 (fun _ h => h) rfl rfl rfl (Nat.le_of_ble_eq_true rfl) (mct G (mpg d kp as bf (md sc L (⟨S.bg, S.en, S.so, S.va, 1⟩ : MSt) im sn) fd tp it ws sz nu mv)) ms_md dX13_must_17 (fun H locs hC => ?_)
      refine lv_aload_n hx hb dX13_must_20 rfl (lv_at hl 0 rfl) ?_
      refine fg_get (C := RX13) (T := TX13) (N := 24) (ci := 0) (g := 0) (i := 0) (v := .int 1) hx hb hown hts hX hC in_X13 rfl (min_ (by decide)) rfl 14 (by decide) q1324 (fun _ h => h) rfl dX13_must_21 ?_
      refine lv_if_ne (tgt := 31) hx hb dX13_must_24 (by decide) (fun _ => ?_) (fun z_6 => absurd z_6 (by decide))
      exact fr_v hx hb hr hlocks hX hC () rfl (congrArg (fun z => mct G (mpg d kp as bf z fd tp it ws sz nu mv)) (by rw [n_must, if_neg (fun z => c_3 z.2)])) dX13_must_31
set_option maxRecDepth 100000 in
theorem m_X13_number {l : Launch} {G : Gm} {d kp as bf sc fd tp it ws sz nu mv : Row} {L im : Nat} {S : MSt} {sn : Int32} (hL : L ≤ 120) (hS : SI L S) (lo hi0 : Int32) : Cm l yX13_number (ws_ yX13_number cX13_number 4 (some .int)) ({ frames := 3, cells := 0, slots := 0, locals := 64 }) (mF G) [.ref (G.ad 0 0), .int lo, .int hi0] (mct G (mpg d kp as bf (md sc L S im sn) fd tp it ws sz nu mv)) (fun _ : Unit => some (.int S.va)) (fun _ => mct G (mpg d kp as bf (md sc L (n_num lo hi0 tp L S) im sn) fd tp it ws sz nu mv)) := by
  refine Cm.start (by decide) (Nat.le_of_ble_eq_true rfl) ?_
  intro p e s m below meth c hf hX hC ls hl
  obtain ⟨hx, hb, hr, hml, hown, hts, hlocks⟩ := hf
  have hl : lv_has ls 4 [(0, .ref (G.ad 0 0)), (1, .int lo), (2, .int hi0)] := hl
  have hown : s.vm.findClass "OwlEarsModel" = some m.cls := hown
  refine lv_aload_n hx hb dX13_number_0 rfl (lv_at hl 0 rfl) ?_
  refine fg_get (C := RX13) (T := TX13) (N := 24) (ci := 0) (g := 0) (i := 0) (v := .int S.va) hx hb hown hts hX hC in_X13 rfl (min_ (by decide)) rfl 13 (by decide) q1323 (fun _ h => h) rfl dX13_number_1 ?_
  refine lv_istore_n (lv' := [(3, .int S.va), (0, .ref (G.ad 0 0)), (1, .int lo), (2, .int hi0)]) hx hb dX13_number_4 rfl hl (by decide) rfl (fun ls hl => ?_)
  refine lv_aload_n hx hb dX13_number_5 rfl (lv_at hl 1 rfl) ?_
  refine lv_aload_n hx hb dX13_number_6 rfl (lv_at hl 1 rfl) ?_
  refine fg_get (C := RX13) (T := TX13) (N := 24) (ci := 0) (g := 0) (i := 0) (v := .int S.so) hx hb hown hts hX hC in_X13 rfl (min_ (by decide)) rfl 12 (by decide) q1322 (fun _ h => h) rfl dX13_number_7 ?_
  refine lv_iconst (v := 2) hx hb dX13_number_10 rfl ?_
  refine lv_icmp_ne (tgt := 27) hx hb dX13_number_11 (by decide) (fun c_1 => ?_) (fun c_1 => ?_)
  · refine lv_iconst (v := 0) hx hb dX13_number_27 rfl ?_
    refine fc_V (As := [.int 0]) (rest := []) hx hb hml hown hts hX hC (m_X13_must (sc := sc) (L := L) (S := S) (im := im) (sn := sn) hL hS False) (lw_V q1769 q1771 qs98 q124 q1772) hdV_X13_must ⟨rfl, rfl⟩ ⟨Nat.le_of_ble_eq_true rfl, Nat.le_of_ble_eq_true rfl⟩ (fx_recv (g := 0) (i := 0) (ci := 0) (q := (RX13, TX13, 24)) hX hC (min_ (by decide)) rfl rfl) hl.1 rfl (Nat.le_of_ble_eq_true rfl) ⟨Nat.zero_le _, Nat.zero_le _⟩ dX13_number_28 (fun _ H locs hC => ?_)
    refine W.eq (g2 := F0 m 31 ls []) rfl ?_
    refine lv_iload_n hx hb dX13_number_31 rfl (lv_at hl 0 rfl) ?_
    exact fr_i hx hb hr hlocks hX hC () rfl (congrArg (fun z => mct G (mpg d kp as bf z fd tp it ws sz nu mv)) (by rw [n_num, must_f (P := S.so = 2 ∧ p_in S.va lo hi0) (fun z => c_1 z.1)])) dX13_number_32
  · refine lv_iload_n hx hb dX13_number_14 rfl (lv_at hl 0 rfl) ?_
    refine lv_iload_n hx hb dX13_number_15 rfl (lv_at hl 2 rfl) ?_
    refine lv_iload_n hx hb dX13_number_16 rfl (lv_at hl 3 rfl) ?_
    refine fc_S (As := [.int S.va, .int lo, .int hi0]) (rest := [.ref (G.ad 0 0)]) hx hb hml hown hts hX hC (m_X13_within S.va lo hi0) (lw_S q1390 q1391 q124 q1392) hdS_X13_within ⟨rfl, rfl⟩ ⟨Nat.le_of_ble_eq_true rfl, Nat.le_of_ble_eq_true rfl⟩ hl.1 rfl (Nat.le_of_ble_eq_true rfl) ⟨Nat.zero_le _, Nat.zero_le _⟩ dX13_number_17 (fun _ H locs hC => ?_)
    refine W.eq (g2 := F0 m 20 ls [.int (b2i (p_in S.va lo hi0)), .ref (G.ad 0 0)]) rfl ?_
    refine fb_eq (tgt := 27) hx hb dX13_number_20 (by decide) (fun c_4 => ?_) (fun c_4 => ?_)
    · refine lv_iconst (v := 0) hx hb dX13_number_27 rfl ?_
      refine fc_V (As := [.int 0]) (rest := []) hx hb hml hown hts hX hC (m_X13_must (sc := sc) (L := L) (S := S) (im := im) (sn := sn) hL hS False) (lw_V q1769 q1771 qs98 q124 q1772) hdV_X13_must ⟨rfl, rfl⟩ ⟨Nat.le_of_ble_eq_true rfl, Nat.le_of_ble_eq_true rfl⟩ (fx_recv (g := 0) (i := 0) (ci := 0) (q := (RX13, TX13, 24)) hX hC (min_ (by decide)) rfl rfl) hl.1 rfl (Nat.le_of_ble_eq_true rfl) ⟨Nat.zero_le _, Nat.zero_le _⟩ dX13_number_28 (fun _ H locs hC => ?_)
      refine W.eq (g2 := F0 m 31 ls []) rfl ?_
      refine lv_iload_n hx hb dX13_number_31 rfl (lv_at hl 0 rfl) ?_
      exact fr_i hx hb hr hlocks hX hC () rfl (congrArg (fun z => mct G (mpg d kp as bf z fd tp it ws sz nu mv)) (by rw [n_num, must_f (P := S.so = 2 ∧ p_in S.va lo hi0) (fun z => c_4 z.2)])) dX13_number_32
    · refine lv_iconst (v := 1) hx hb dX13_number_23 rfl ?_
      refine lv_goto (tgt := 28) hx hb dX13_number_24 (by decide) ?_
      refine fc_V (As := [.int 1]) (rest := []) hx hb hml hown hts hX hC (m_X13_must (sc := sc) (L := L) (S := S) (im := im) (sn := sn) hL hS True) (lw_V q1769 q1771 qs98 q124 q1772) hdV_X13_must ⟨rfl, rfl⟩ ⟨Nat.le_of_ble_eq_true rfl, Nat.le_of_ble_eq_true rfl⟩ (fx_recv (g := 0) (i := 0) (ci := 0) (q := (RX13, TX13, 24)) hX hC (min_ (by decide)) rfl rfl) hl.1 rfl (Nat.le_of_ble_eq_true rfl) ⟨Nat.zero_le _, Nat.zero_le _⟩ dX13_number_28 (fun _ H locs hC => ?_)
      refine W.eq (g2 := F0 m 31 ls []) rfl ?_
      refine lv_iload_n hx hb dX13_number_31 rfl (lv_at hl 0 rfl) ?_
      exact fr_i hx hb hr hlocks hX hC () rfl (congrArg (fun z => mct G (mpg d kp as bf z fd tp it ws sz nu mv)) (by rw [n_num, must_t (P := S.so = 2 ∧ p_in S.va lo hi0) ⟨c_1, c_4⟩])) dX13_number_32
set_option maxRecDepth 100000 in
theorem m_X13_addItem {l : Launch} {G : Gm} {d kp as bf sc fd tp it ws sz nu mv : Row} {L im : Nat} {S : MSt} {sn : Int32} (hL : L ≤ 120) (q0 a0 b0 c0 d0 : Int32) (him : im < 120) : Cm l yX13_addItem (ws_ yX13_addItem cX13_addItem 7 none) ({ frames := 0, cells := 0, slots := 0, locals := 0 }) (mF G) [.ref (G.ad 0 0), .int q0, .int a0, .int b0, .int c0, .int d0] (mct G (mpg d kp as bf (md sc L S im sn) fd tp it ws sz nu mv)) (fun _ : Unit => none) (fun _ => mct G (mpg d kp as bf (md sc L S (im + 1) sn) fd tp (p_item it im q0 a0 b0 c0 d0) ws sz nu mv)) := by
  refine Cm.start (by decide) (Nat.le_of_ble_eq_true rfl) ?_
  intro p e s m below meth c hf hX hC ls hl
  obtain ⟨hx, hb, hr, hml, hown, hts, hlocks⟩ := hf
  have hl : lv_has ls 7 [(0, .ref (G.ad 0 0)), (1, .int q0), (2, .int a0), (3, .int b0), (4, .int c0), (5, .int d0)] := hl
  have hown : s.vm.findClass "OwlEarsModel" = some m.cls := hown
  refine lv_iconst (v := 5) hx hb dX13_addItem_0 rfl ?_
  refine lv_aload_n hx hb dX13_addItem_1 rfl (lv_at hl 0 rfl) ?_
  refine fg_get (C := RX13) (T := TX13) (N := 24) (ci := 0) (g := 0) (i := 0) (v := .int (nI im)) hx hb hown hts hX hC in_X13 rfl (min_ (by decide)) rfl 18 (by decide) q1328 (fun _ h => h) rfl dX13_addItem_2 ?_
  refine lv_imul hx hb dX13_addItem_5 ?_
  rw [show (5 : Int32) = nI 5 from rfl, nI_mul]
  refine lv_istore (lv' := [(6, .int (nI (5 * im))), (0, .ref (G.ad 0 0)), (1, .int q0), (2, .int a0), (3, .int b0), (4, .int c0), (5, .int d0)]) hx hb dX13_addItem_6 hl (by decide) rfl (fun ls hl => ?_)
  refine lv_aload_n hx hb dX13_addItem_8 rfl (lv_at hl 1 rfl) ?_
  refine fg_get (C := RX13) (T := TX13) (N := 24) (ci := 0) (g := 0) (i := 0) (v := .ref (G.ad 0 9)) hx hb hown hts hX hC in_X13 rfl (min_ (by decide)) rfl 17 (by decide) q1327 (fun _ h => h) rfl dX13_addItem_9 ?_
  refine lv_iload hx hb dX13_addItem_12 (lv_at hl 0 rfl) ?_
  refine lv_iload_n hx hb dX13_addItem_14 rfl (lv_at hl 2 rfl) ?_
  refine fg_iast (g := 0) (i := 9) (t0 := 0) hx hb hX hC (min_ (by decide)) rfl rfl (vp_in_nI (show 5 * im < 600 by omega) (by decide)) (mct G (mpg d kp as bf (md sc L S im sn) fd tp (upd it (5 * im) q0) ws sz nu mv)) (mu mp9 (mst (nI_clamp (by omega)))) dX13_addItem_15 (fun H locs hC => ?_)
  refine lv_aload_n hx hb dX13_addItem_16 rfl (lv_at hl 1 rfl) ?_
  refine fg_get (C := RX13) (T := TX13) (N := 24) (ci := 0) (g := 0) (i := 0) (v := .ref (G.ad 0 9)) hx hb hown hts hX hC in_X13 rfl (min_ (by decide)) rfl 17 (by decide) q1327 (fun _ h => h) rfl dX13_addItem_17 ?_
  refine lv_iload hx hb dX13_addItem_20 (lv_at hl 0 rfl) ?_
  refine lv_iconst (v := 1) hx hb dX13_addItem_22 rfl ?_
  refine lv_iadd hx hb dX13_addItem_23 ?_
  rw [nI_1]
  refine lv_iload_n hx hb dX13_addItem_24 rfl (lv_at hl 3 rfl) ?_
  refine fg_iast (g := 0) (i := 9) (t0 := 0) hx hb hX hC (min_ (by decide)) rfl rfl (vp_in_nI (show 5 * im + 1 < 600 by omega) (by decide)) (mct G (mpg d kp as bf (md sc L S im sn) fd tp (upd (upd it (5 * im) q0) (5 * im + 1) a0) ws sz nu mv)) (mu mp9 (mst (nI_clamp (by omega)))) dX13_addItem_25 (fun H locs hC => ?_)
  refine lv_aload_n hx hb dX13_addItem_26 rfl (lv_at hl 1 rfl) ?_
  refine fg_get (C := RX13) (T := TX13) (N := 24) (ci := 0) (g := 0) (i := 0) (v := .ref (G.ad 0 9)) hx hb hown hts hX hC in_X13 rfl (min_ (by decide)) rfl 17 (by decide) q1327 (fun _ h => h) rfl dX13_addItem_27 ?_
  refine lv_iload hx hb dX13_addItem_30 (lv_at hl 0 rfl) ?_
  refine lv_iconst (v := 2) hx hb dX13_addItem_32 rfl ?_
  refine lv_iadd hx hb dX13_addItem_33 ?_
  rw [show (2 : Int32) = nI 2 from rfl, nI_add]
  refine lv_iload_n hx hb dX13_addItem_34 rfl (lv_at hl 4 rfl) ?_
  refine fg_iast (g := 0) (i := 9) (t0 := 0) hx hb hX hC (min_ (by decide)) rfl rfl (vp_in_nI (show 5 * im + 2 < 600 by omega) (by decide)) (mct G (mpg d kp as bf (md sc L S im sn) fd tp (upd (upd (upd it (5 * im) q0) (5 * im + 1) a0) (5 * im + 2) b0) ws sz nu mv)) (mu mp9 (mst (nI_clamp (by omega)))) dX13_addItem_35 (fun H locs hC => ?_)
  refine lv_aload_n hx hb dX13_addItem_36 rfl (lv_at hl 1 rfl) ?_
  refine fg_get (C := RX13) (T := TX13) (N := 24) (ci := 0) (g := 0) (i := 0) (v := .ref (G.ad 0 9)) hx hb hown hts hX hC in_X13 rfl (min_ (by decide)) rfl 17 (by decide) q1327 (fun _ h => h) rfl dX13_addItem_37 ?_
  refine lv_iload hx hb dX13_addItem_40 (lv_at hl 0 rfl) ?_
  refine lv_iconst (v := 3) hx hb dX13_addItem_42 rfl ?_
  refine lv_iadd hx hb dX13_addItem_43 ?_
  rw [show (3 : Int32) = nI 3 from rfl, nI_add]
  refine lv_iload hx hb dX13_addItem_44 (lv_at hl 5 rfl) ?_
  refine fg_iast (g := 0) (i := 9) (t0 := 0) hx hb hX hC (min_ (by decide)) rfl rfl (vp_in_nI (show 5 * im + 3 < 600 by omega) (by decide)) (mct G (mpg d kp as bf (md sc L S im sn) fd tp (upd (upd (upd (upd it (5 * im) q0) (5 * im + 1) a0) (5 * im + 2) b0) (5 * im + 3) c0) ws sz nu mv)) (mu mp9 (mst (nI_clamp (by omega)))) dX13_addItem_46 (fun H locs hC => ?_)
  refine lv_aload_n hx hb dX13_addItem_47 rfl (lv_at hl 1 rfl) ?_
  refine fg_get (C := RX13) (T := TX13) (N := 24) (ci := 0) (g := 0) (i := 0) (v := .ref (G.ad 0 9)) hx hb hown hts hX hC in_X13 rfl (min_ (by decide)) rfl 17 (by decide) q1327 (fun _ h => h) rfl dX13_addItem_48 ?_
  refine lv_iload hx hb dX13_addItem_51 (lv_at hl 0 rfl) ?_
  refine lv_iconst (v := 4) hx hb dX13_addItem_53 rfl ?_
  refine lv_iadd hx hb dX13_addItem_54 ?_
  rw [show (4 : Int32) = nI 4 from rfl, nI_add]
  refine lv_iload hx hb dX13_addItem_55 (lv_at hl 6 rfl) ?_
  refine fg_iast (g := 0) (i := 9) (t0 := 0) hx hb hX hC (min_ (by decide)) rfl rfl (vp_in_nI (show 5 * im + 4 < 600 by omega) (by decide)) (mct G (mpg d kp as bf (md sc L S im sn) fd tp (upd (upd (upd (upd (upd it (5 * im) q0) (5 * im + 1) a0) (5 * im + 2) b0) (5 * im + 3) c0) (5 * im + 4) d0) ws sz nu mv)) (mu mp9 (mst (nI_clamp (by omega)))) dX13_addItem_57 (fun H locs hC => ?_)
  refine lv_aload_n hx hb dX13_addItem_58 rfl (lv_at hl 1 rfl) ?_
  refine lv_dup hx hb dX13_addItem_59 rfl ?_
  refine fg_get (C := RX13) (T := TX13) (N := 24) (ci := 0) (g := 0) (i := 0) (v := .int (nI im)) hx hb hown hts hX hC in_X13 rfl (min_ (by decide)) rfl 18 (by decide) q1328 (fun _ h => h) rfl dX13_addItem_60 ?_
  refine lv_iconst (v := 1) hx hb dX13_addItem_63 rfl ?_
  refine lv_iadd hx hb dX13_addItem_64 ?_
  rw [nI_1]
  refine fg_put (C := RX13) (T := TX13) (N := 24) (ci := 0) (g := 0) (i := 0) hx hb hown hts hX hC in_X13 tyX13 tyX13_ok nmX13 rfl (min_ (by decide)) rfl 18 (by decide) q1328 (fun _ h => h) rfl rfl rfl (Nat.le_of_ble_eq_true rfl) (mct G (mpg d kp as bf (md sc L S (im + 1) sn) fd tp (upd (upd (upd (upd (upd it (5 * im) q0) (5 * im + 1) a0) (5 * im + 2) b0) (5 * im + 3) c0) (5 * im + 4) d0) ws sz nu mv)) ms_md dX13_addItem_65 (fun H locs hC => ?_)
  exact fr_v hx hb hr hlocks hX hC () rfl (congrArg (fun z => mct G (mpg d kp as bf (md sc L S (im + 1) sn) fd tp z ws sz nu mv)) (rfl)) dX13_addItem_68
