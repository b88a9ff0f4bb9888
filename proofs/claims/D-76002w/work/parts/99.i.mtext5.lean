theorem hdV_X13_readItem : yX13_readItem.cls = RX13 ∧ yX13_readItem.cls ≠ "java/lang/invoke/MethodHandle" ∧ yX13_readItem.cls ≠ "java/lang/invoke/VarHandle" ∧ (parseMethodDescriptor yX13_readItem.desc).map (fun d => d.parameters.length) = some 0 := by decide +kernel
theorem hdV_X13_isToldSo : yX13_isToldSo.cls = RX13 ∧ yX13_isToldSo.cls ≠ "java/lang/invoke/MethodHandle" ∧ yX13_isToldSo.cls ≠ "java/lang/invoke/VarHandle" ∧ (parseMethodDescriptor yX13_isToldSo.desc).map (fun d => d.parameters.length) = some 1 := by decide +kernel
set_option maxRecDepth 100000 in
theorem m_X13_text_T {l : Launch} {G : Gm} {d kp as bf sc fd tp it ws sz nu mv : Row} {L im1 : Nat} {S1 : MSt} {sn1 : Int32} {it1 : Row} (hL : L ≤ 120) (hsc : sc 3 = nI L) (hq : n_read tp L (d 1) it = (S1, sn1, it1, im1)) (hw0 : (n_fin tp L S1).wr = 0) (hok : ∀ k, k < im1 → OKit it1 (5 * k) (p_tells it1 k d)) (hW : ∀ k, k ≤ im1 → WF (p_tells it1 k d)) : Cm l yX13_text (ws_ yX13_text cX13_text 3 (some .int)) ({ frames := 9, cells := 0, slots := 0, locals := 197 }) (mF G) [.ref (G.ad 0 0)] (mct G (mpg d kp as bf sc fd tp it ws sz nu mv)) (fun _ : Unit => some (.int (nI im1))) (fun _ => mct G (mpg (p_tells it1 im1 d) kp as bf (md sc 0 (n_fin tp L S1) im1 sn1) fd tp it1 ws sz nu mv)) := by
  refine Cm.start (by decide) (Nat.le_of_ble_eq_true rfl) ?_
  intro p e s m below meth c hf hX hC ls hl
  obtain ⟨hx, hb, hr, hml, hown, hts, hlocks⟩ := hf
  have hl : lv_has ls 3 [(0, .ref (G.ad 0 0))] := hl
  have hown : s.vm.findClass "OwlEarsModel" = some m.cls := hown
  obtain ⟨b0, e0, im0, hmd⟩ := md_ex hsc
  have hC := (congrArg (fun z => fC (mF G) (mct G (mpg d kp as bf z fd tp it ws sz nu mv)) s.heap _ _) (hmd)).mp hC
  refine lv_aload_n hx hb dX13_text_0 rfl (lv_at hl 0 rfl) ?_
  refine lv_iconst (v := 0) hx hb dX13_text_1 rfl ?_
  refine W.eq (g2 := F0 m 2 ls [.int (nI 0), .ref (G.ad 0 0)]) rfl ?_
  refine fg_put (C := RX13) (T := TX13) (N := 24) (ci := 0) (g := 0) (i := 0) hx hb hown hts hX hC in_X13 tyX13 tyX13_ok nmX13 rfl (min_ (by decide)) rfl 11 (by decide) q1321 (fun _ h => h) rfl rfl rfl (Nat.le_of_ble_eq_true rfl) (mct G (mpg d kp as bf (md sc L (⟨b0, 0, sc 6, sc 7, sc 8⟩ : MSt) im0 (sc 10)) fd tp it ws sz nu mv)) ms_md dX13_text_2 (fun H locs hC => ?_)
  refine lv_aload_n hx hb dX13_text_5 rfl (lv_at hl 0 rfl) ?_
  refine lv_iconst (v := 0) hx hb dX13_text_6 rfl ?_
  refine fg_put (C := RX13) (T := TX13) (N := 24) (ci := 0) (g := 0) (i := 0) hx hb hown hts hX hC in_X13 tyX13 tyX13_ok nmX13 rfl (min_ (by decide)) rfl 14 (by decide) q1324 (fun _ h => h) rfl rfl rfl (Nat.le_of_ble_eq_true rfl) (mct G (mpg d kp as bf (md sc L (⟨b0, 0, sc 6, sc 7, 0⟩ : MSt) im0 (sc 10)) fd tp it ws sz nu mv)) ms_md dX13_text_7 (fun H locs hC => ?_)
  refine lv_aload_n hx hb dX13_text_10 rfl (lv_at hl 0 rfl) ?_
  refine lv_iconst (v := 0) hx hb dX13_text_11 rfl ?_
  refine W.eq (g2 := F0 m 12 ls [.int (nI 0), .ref (G.ad 0 0)]) rfl ?_
  refine fg_put (C := RX13) (T := TX13) (N := 24) (ci := 0) (g := 0) (i := 0) hx hb hown hts hX hC in_X13 tyX13 tyX13_ok nmX13 rfl (min_ (by decide)) rfl 18 (by decide) q1328 (fun _ h => h) rfl rfl rfl (Nat.le_of_ble_eq_true rfl) (mct G (mpg d kp as bf (md sc L (⟨b0, 0, sc 6, sc 7, 0⟩ : MSt) 0 (sc 10)) fd tp it ws sz nu mv)) ms_md dX13_text_12 (fun H locs hC => ?_)
  refine lv_aload_n hx hb dX13_text_15 rfl (lv_at hl 0 rfl) ?_
  refine lv_aload_n hx hb dX13_text_16 rfl (lv_at hl 0 rfl) ?_
  refine fg_get (C := RX13) (T := TX13) (N := 24) (ci := 0) (g := 0) (i := 0) (v := .ref (G.ad 0 1)) hx hb hown hts hX hC in_X13 rfl (min_ (by decide)) rfl 0 (by decide) q1310 (fun _ h => h) rfl dX13_text_17 ?_
  refine lv_iconst (v := 1) hx hb dX13_text_20 rfl ?_
  refine fg_iald (g := 0) (i := 1) (t0 := 0) (v := d 1) hx hb hX hC (min_ (by decide)) rfl rfl (vin_b rfl) rfl dX13_text_21 ?_
  refine fg_put (C := RX13) (T := TX13) (N := 24) (ci := 0) (g := 0) (i := 0) hx hb hown hts hX hC in_X13 tyX13 tyX13_ok nmX13 rfl (min_ (by decide)) rfl 19 (by decide) q1329 (fun _ h => h) rfl rfl rfl (Nat.le_of_ble_eq_true rfl) (mct G (mpg d kp as bf (md sc L (⟨b0, 0, sc 6, sc 7, 0⟩ : MSt) 0 (d 1)) fd tp it ws sz nu mv)) ms_md dX13_text_22 (fun H locs hC => ?_)
  refine lv_aload_n hx hb dX13_text_25 rfl (lv_at hl 0 rfl) ?_
  refine fc_V (As := []) (rest := []) hx hb hml hown hts hX hC (m_X13_next (sc := sc) (L := L) (S := (⟨b0, 0, sc 6, sc 7, 0⟩ : MSt)) (im := 0) (sn := (d 1)) hL (Nat.zero_le L)) (lw_V q1740 q1742 qs93 q124 q1743) hdV_X13_next ⟨rfl, rfl⟩ ⟨Nat.le_of_ble_eq_true rfl, Nat.le_of_ble_eq_true rfl⟩ (fx_recv (g := 0) (i := 0) (ci := 0) (q := (RX13, TX13, 24)) hX hC (min_ (by decide)) rfl rfl) hl.1 rfl (Nat.le_of_ble_eq_true rfl) ⟨Nat.zero_le _, Nat.zero_le _⟩ dX13_text_26 (fun _ H locs hC => ?_)
  refine W.eq (g2 := F0 m 29 ls []) rfl ?_
  have hC : fC (mF G) (mct G (mpg d kp as bf (md sc L (n_start tp L) 0 (d 1)) fd tp it ws sz nu mv)) s.heap _ _ := hC
  refine lv_aload_n hx hb dX13_text_29 rfl (lv_at hl 0 rfl) ?_
  refine fc_V (As := []) (rest := []) hx hb hml hown hts hX hC (m_X13_readItem (sc := sc) (L := L) (S := (n_start tp L)) (im := 0) (sn := (d 1)) hL (nstart_I hL) (by decide)) (lw_V q1748 q1750 qs95 q124 q1751) hdV_X13_readItem ⟨rfl, rfl⟩ ⟨Nat.le_of_ble_eq_true rfl, Nat.le_of_ble_eq_true rfl⟩ (fx_recv (g := 0) (i := 0) (ci := 0) (q := (RX13, TX13, 24)) hX hC (min_ (by decide)) rfl rfl) hl.1 rfl (Nat.le_of_ble_eq_true rfl) ⟨Nat.zero_le _, Nat.zero_le _⟩ dX13_text_30 (fun _ H locs hC => ?_)
  refine W.eq (g2 := F0 m 33 ls []) rfl ?_
  have L5 : ∀ (k5 : Nat) (S5 : MSt) (sn5 : Int32) (it5 : Row) (im5 : Nat), SI L S5 → (S5.wr = 0 → 121 ≤ S5.en + k5) → (S5.wr = 0 → im5 ≤ S5.bg) → im5 ≤ 120 → n_loop tp L k5 S5 sn5 it5 im5 = (S1, sn1, it1, im1) → ∀ (H : Heap) (locs : List Loc), fC (mF G) (mct G (mpg d kp as bf (md sc L S5 im5 sn5) fd tp it5 ws sz nu mv)) s.heap H locs → ∀ ls : Array Slot, lv_has ls 3 [(0, .ref (G.ad 0 0))] → WG p l e ({ frames := 9, cells := 0, slots := 0, locals := 197 }) s m (([.ref (G.ad 0 0)] : List Value).toArray) below meth c H locs (mF G) (fun _ : Unit => some (.int (nI im1))) (fun _ => mct G (mpg (p_tells it1 im1 d) kp as bf (md sc 0 (n_fin tp L S1) im1 sn1) fd tp it1 ws sz nu mv)) (F0 m 33 ls []) := by
    clear hq
    intro k5
    induction k5 with
    | zero =>
      intro S5 sn5 it5 im5 hS5 hk5 hi5 hm5 hq H locs hC ls hl
      have hz5 : ¬ S5.wr = 0 := fun z => by have := hk5 z; have := hS5.2.1; omega
      refine lv_aload_n hx hb dX13_text_33 rfl (lv_at hl 0 rfl) ?_
      refine fg_get (C := RX13) (T := TX13) (N := 24) (ci := 0) (g := 0) (i := 0) (v := .int S5.wr) hx hb hown hts hX hC in_X13 rfl (min_ (by decide)) rfl 14 (by decide) q1324 (fun _ h => h) rfl dX13_text_34 ?_
      refine lv_if_ne (tgt := 74) hx hb dX13_text_37 (by decide) (fun _ => ?_) (fun z_3 => absurd z_3 hz5)
      rw [nloop_f (fun z => hz5 z.1)] at hq
      have e1 : S5 = S1 := congrArg (fun z => z.1) hq
      have e2 : sn5 = sn1 := congrArg (fun z => z.2.1) hq
      have e3 : it5 = it1 := congrArg (fun z => z.2.2.1) hq
      have e4 : im5 = im1 := congrArg (fun z => z.2.2.2) hq
      have hC : fC (mF G) (mct G (mpg d kp as bf (md sc L S1 im1 sn1) fd tp it1 ws sz nu mv)) s.heap H locs := by rw [← e1, ← e2, ← e3, ← e4]; exact hC
      have hS1 : SI L S1 := e1 ▸ hS5
      have him1 : im1 ≤ 120 := e4 ▸ hm5
      refine lv_aload_n hx hb dX13_text_74 rfl (lv_at hl 0 rfl) ?_
      refine lv_aload_n hx hb dX13_text_75 rfl (lv_at hl 0 rfl) ?_
      refine fg_get (C := RX13) (T := TX13) (N := 24) (ci := 0) (g := 0) (i := 0) (v := .int S1.so) hx hb hown hts hX hC in_X13 rfl (min_ (by decide)) rfl 12 (by decide) q1322 (fun _ h => h) rfl dX13_text_76 ?_
      refine fw_joinb (C := S1.so = 0) (pcj := 87) (ls := ls) (rest := [.ref (G.ad 0 0)]) (fun ja jb => ?_) ?_
      · refine lv_if_ne (tgt := 86) hx hb dX13_text_79 (by decide) (fun c_4 => ?_) (fun c_4 => ?_)
        · refine lv_iconst (v := 0) hx hb dX13_text_86 rfl ?_
          exact jb c_4
        · refine lv_iconst (v := 1) hx hb dX13_text_82 rfl ?_
          refine lv_goto (tgt := 87) hx hb dX13_text_83 (by decide) ?_
          exact ja c_4
      refine fc_V (As := [.int (b2i (S1.so = 0))]) (rest := []) hx hb hml hown hts hX hC (m_X13_must (sc := sc) (L := L) (S := S1) (im := im1) (sn := sn1) hL hS1 (S1.so = 0)) (lw_V q1769 q1771 qs98 q124 q1772) hdV_X13_must ⟨rfl, rfl⟩ ⟨Nat.le_of_ble_eq_true rfl, Nat.le_of_ble_eq_true rfl⟩ (fx_recv (g := 0) (i := 0) (ci := 0) (q := (RX13, TX13, 24)) hX hC (min_ (by decide)) rfl rfl) hl.1 rfl (Nat.le_of_ble_eq_true rfl) ⟨Nat.zero_le _, Nat.zero_le _⟩ dX13_text_87 (fun _ H locs hC => ?_)
      refine W.eq (g2 := F0 m 90 ls []) rfl ?_
      refine lv_aload_n hx hb dX13_text_90 rfl (lv_at hl 0 rfl) ?_
      refine lv_iconst (v := 0) hx hb dX13_text_91 rfl ?_
      refine W.eq (g2 := F0 m 92 ls [.int (nI 0), .ref (G.ad 0 0)]) rfl ?_
      refine fg_put (C := RX13) (T := TX13) (N := 24) (ci := 0) (g := 0) (i := 0) hx hb hown hts hX hC in_X13 tyX13 tyX13_ok nmX13 rfl (min_ (by decide)) rfl 9 (by decide) q1319 (fun _ h => h) rfl rfl rfl (Nat.le_of_ble_eq_true rfl) (mct G (mpg d kp as bf (md sc 0 (n_must (S1.so = 0) tp L S1) im1 sn1) fd tp it1 ws sz nu mv)) ms_md dX13_text_92 (fun H locs hC => ?_)
      refine lv_aload_n hx hb dX13_text_95 rfl (lv_at hl 0 rfl) ?_
      refine fg_get (C := RX13) (T := TX13) (N := 24) (ci := 0) (g := 0) (i := 0) (v := .int ((n_must (S1.so = 0) tp L S1).wr)) hx hb hown hts hX hC in_X13 rfl (min_ (by decide)) rfl 14 (by decide) q1324 (fun _ h => h) rfl dX13_text_96 ?_
      refine lv_if_eq (tgt := 109) hx hb dX13_text_99 (by decide) (fun _ => ?_) (fun z_6 => absurd hw0 z_6)
      refine lv_iconst (v := 0) hx hb dX13_text_109 rfl ?_
      refine lv_istore_n (lv' := [(1, .int 0), (0, .ref (G.ad 0 0))]) hx hb dX13_text_110 rfl hl (by decide) rfl (fun ls hl => ?_)
      refine lv_iconst (v := 0) hx hb dX13_text_111 rfl ?_
      refine lv_istore_n (lv' := [(2, .int 0), (1, .int 0), (0, .ref (G.ad 0 0))]) hx hb dX13_text_112 rfl hl (by decide) rfl (fun ls hl => ?_)
      have L6 : ∀ (k6 i6 : Nat), i6 + k6 = im1 → ∀ (H : Heap) (locs : List Loc), fC (mF G) (mct G (mpg (p_tells it1 i6 d) kp as bf (md sc 0 (n_must (S1.so = 0) tp L S1) im1 sn1) fd tp it1 ws sz nu mv)) s.heap H locs → ∀ ls : Array Slot, lv_has ls 3 [(2, .int (nI i6)), (1, .int (nI i6)), (0, .ref (G.ad 0 0))] → WG p l e ({ frames := 9, cells := 0, slots := 0, locals := 197 }) s m (([.ref (G.ad 0 0)] : List Value).toArray) below meth c H locs (mF G) (fun _ : Unit => some (.int (nI im1))) (fun _ => mct G (mpg (p_tells it1 im1 d) kp as bf (md sc 0 (n_fin tp L S1) im1 sn1) fd tp it1 ws sz nu mv)) (F0 m 113 ls []) := by
        intro k6
        induction k6 with
        | zero =>
          intro i6 hi6 H locs hC ls hl
          have hi7 : i6 = im1 := by omega
          refine lv_iload_n hx hb dX13_text_113 rfl (lv_at hl 0 rfl) ?_
          refine lv_aload_n hx hb dX13_text_114 rfl (lv_at hl 2 rfl) ?_
          refine fg_get (C := RX13) (T := TX13) (N := 24) (ci := 0) (g := 0) (i := 0) (v := .int (nI im1)) hx hb hown hts hX hC in_X13 rfl (min_ (by decide)) rfl 18 (by decide) q1328 (fun _ h => h) rfl dX13_text_115 ?_
          refine fj_ge (tgt := 145) hx hb dX13_text_118 (by decide) (fun _ => ?_) (fun z_7 => absurd z_7 (nI_nlt (a := i6) (b := im1) (by omega) (by omega)))
          refine lv_iload_n hx hb dX13_text_145 rfl (lv_at hl 1 rfl) ?_
          exact fr_i hx hb hr hlocks hX hC () (congrArg (fun z => some (Value.int z)) (by rw [hi7])) ((congrArg (fun z => mct G (mpg z kp as bf (md sc 0 (n_must (S1.so = 0) tp L S1) im1 sn1) fd tp it1 ws sz nu mv)) (by rw [hi7])).trans (congrArg (fun z => mct G (mpg (p_tells it1 im1 d) kp as bf z fd tp it1 ws sz nu mv)) (rfl))) dX13_text_146
        | succ k6 ih6 =>
          intro i6 hi6 H locs hC ls hl
          refine lv_iload_n hx hb dX13_text_113 rfl (lv_at hl 0 rfl) ?_
          refine lv_aload_n hx hb dX13_text_114 rfl (lv_at hl 2 rfl) ?_
          refine fg_get (C := RX13) (T := TX13) (N := 24) (ci := 0) (g := 0) (i := 0) (v := .int (nI im1)) hx hb hown hts hX hC in_X13 rfl (min_ (by decide)) rfl 18 (by decide) q1328 (fun _ h => h) rfl dX13_text_115 ?_
          refine fj_ge (tgt := 145) hx hb dX13_text_118 (by decide) (fun z_8 => absurd (nI_lt (a := i6) (b := im1) (by omega) (by omega)) z_8) (fun _ => ?_)
          refine lv_iload_n hx hb dX13_text_121 rfl (lv_at hl 1 rfl) ?_
          refine lv_aload_n hx hb dX13_text_122 rfl (lv_at hl 2 rfl) ?_
          refine lv_iconst (v := 5) hx hb dX13_text_123 rfl ?_
          refine lv_iload_n hx hb dX13_text_124 rfl (lv_at hl 0 rfl) ?_
          refine lv_imul hx hb dX13_text_125 ?_
          rw [show (5 : Int32) = nI 5 from rfl, nI_mul]
          refine fc_V (As := [.int (nI (5 * i6))]) (rest := [.int (nI i6)]) hx hb hml hown hts hX hC (m_X13_isToldSo (hW i6 (by omega)) (5 * i6) (by omega) (hok i6 (by omega))) (lw_V q1804 q1806 qs105 q124 q1807) hdV_X13_isToldSo ⟨rfl, rfl⟩ ⟨Nat.le_of_ble_eq_true rfl, Nat.le_of_ble_eq_true rfl⟩ (fx_recv (g := 0) (i := 0) (ci := 0) (q := (RX13, TX13, 24)) hX hC (min_ (by decide)) rfl rfl) hl.1 rfl (Nat.le_of_ble_eq_true rfl) ⟨Nat.zero_le _, Nat.zero_le _⟩ dX13_text_126 (fun _ H locs hC => ?_)
          refine W.eq (g2 := F0 m 129 ls [.int (p_old it1 (5 * i6) (p_tells it1 i6 d)), .int (nI i6)]) rfl ?_
          refine fi_ge (tgt := 136) hx hb dX13_text_129 (by decide) (fun _ => ?_) (fun z_10 => absurd z_10 (old_nn (hW i6 (by omega)) (hok i6 (by omega))))
          refine lv_iconst (v := 1) hx hb dX13_text_136 rfl ?_
          refine lv_iadd hx hb dX13_text_137 ?_
          rw [nI_1]
          refine lv_istore_n (lv' := [(1, .int (nI (i6 + 1))), (2, .int (nI i6)), (0, .ref (G.ad 0 0))]) hx hb dX13_text_138 rfl hl (by decide) rfl (fun ls hl => ?_)
          refine lv_iinc (v := nI (i6 + 1)) (lv' := [(2, .int (nI (i6 + 1))), (1, .int (nI (i6 + 1))), (0, .ref (G.ad 0 0))]) hx hb dX13_text_139 hl (k := 1) rfl (nI_1 _) (by decide) rfl (fun ls hl => ?_)
          refine lv_goto (tgt := 113) hx hb dX13_text_142 (by decide) ?_
          exact ih6 (i6 + 1) (by omega) _ _ hC ls (lv_sub hl [0, 1, 2] rfl)
      exact L6 im1 0 (Nat.zero_add _) _ _ hC ls (lv_sub hl [0, 1, 2] rfl)
    | succ k5 ih5 =>
      intro S5 sn5 it5 im5 hS5 hk5 hi5 hm5 hq H locs hC ls hl
      refine lv_aload_n hx hb dX13_text_33 rfl (lv_at hl 0 rfl) ?_
      refine fg_get (C := RX13) (T := TX13) (N := 24) (ci := 0) (g := 0) (i := 0) (v := .int S5.wr) hx hb hown hts hX hC in_X13 rfl (min_ (by decide)) rfl 14 (by decide) q1324 (fun _ h => h) rfl dX13_text_34 ?_
      refine lv_if_ne (tgt := 74) hx hb dX13_text_37 (by decide) (fun c_11 => ?_) (fun c_11 => ?_)
      · rw [nloop_f (fun z => c_11 z.1)] at hq
        have e1 : S5 = S1 := congrArg (fun z => z.1) hq
        have e2 : sn5 = sn1 := congrArg (fun z => z.2.1) hq
        have e3 : it5 = it1 := congrArg (fun z => z.2.2.1) hq
        have e4 : im5 = im1 := congrArg (fun z => z.2.2.2) hq
        have hC : fC (mF G) (mct G (mpg d kp as bf (md sc L S1 im1 sn1) fd tp it1 ws sz nu mv)) s.heap H locs := by rw [← e1, ← e2, ← e3, ← e4]; exact hC
        have hS1 : SI L S1 := e1 ▸ hS5
        have him1 : im1 ≤ 120 := e4 ▸ hm5
        refine lv_aload_n hx hb dX13_text_74 rfl (lv_at hl 0 rfl) ?_
        refine lv_aload_n hx hb dX13_text_75 rfl (lv_at hl 0 rfl) ?_
        refine fg_get (C := RX13) (T := TX13) (N := 24) (ci := 0) (g := 0) (i := 0) (v := .int S1.so) hx hb hown hts hX hC in_X13 rfl (min_ (by decide)) rfl 12 (by decide) q1322 (fun _ h => h) rfl dX13_text_76 ?_
        refine fw_joinb (C := S1.so = 0) (pcj := 87) (ls := ls) (rest := [.ref (G.ad 0 0)]) (fun ja jb => ?_) ?_
        · refine lv_if_ne (tgt := 86) hx hb dX13_text_79 (by decide) (fun c_12 => ?_) (fun c_12 => ?_)
          · refine lv_iconst (v := 0) hx hb dX13_text_86 rfl ?_
            exact jb c_12
          · refine lv_iconst (v := 1) hx hb dX13_text_82 rfl ?_
            refine lv_goto (tgt := 87) hx hb dX13_text_83 (by decide) ?_
            exact ja c_12
        refine fc_V (As := [.int (b2i (S1.so = 0))]) (rest := []) hx hb hml hown hts hX hC (m_X13_must (sc := sc) (L := L) (S := S1) (im := im1) (sn := sn1) hL hS1 (S1.so = 0)) (lw_V q1769 q1771 qs98 q124 q1772) hdV_X13_must ⟨rfl, rfl⟩ ⟨Nat.le_of_ble_eq_true rfl, Nat.le_of_ble_eq_true rfl⟩ (fx_recv (g := 0) (i := 0) (ci := 0) (q := (RX13, TX13, 24)) hX hC (min_ (by decide)) rfl rfl) hl.1 rfl (Nat.le_of_ble_eq_true rfl) ⟨Nat.zero_le _, Nat.zero_le _⟩ dX13_text_87 (fun _ H locs hC => ?_)
        refine W.eq (g2 := F0 m 90 ls []) rfl ?_
        refine lv_aload_n hx hb dX13_text_90 rfl (lv_at hl 0 rfl) ?_
        refine lv_iconst (v := 0) hx hb dX13_text_91 rfl ?_
        refine W.eq (g2 := F0 m 92 ls [.int (nI 0), .ref (G.ad 0 0)]) rfl ?_
        refine fg_put (C := RX13) (T := TX13) (N := 24) (ci := 0) (g := 0) (i := 0) hx hb hown hts hX hC in_X13 tyX13 tyX13_ok nmX13 rfl (min_ (by decide)) rfl 9 (by decide) q1319 (fun _ h => h) rfl rfl rfl (Nat.le_of_ble_eq_true rfl) (mct G (mpg d kp as bf (md sc 0 (n_must (S1.so = 0) tp L S1) im1 sn1) fd tp it1 ws sz nu mv)) ms_md dX13_text_92 (fun H locs hC => ?_)
        refine lv_aload_n hx hb dX13_text_95 rfl (lv_at hl 0 rfl) ?_
        refine fg_get (C := RX13) (T := TX13) (N := 24) (ci := 0) (g := 0) (i := 0) (v := .int ((n_must (S1.so = 0) tp L S1).wr)) hx hb hown hts hX hC in_X13 rfl (min_ (by decide)) rfl 14 (by decide) q1324 (fun _ h => h) rfl dX13_text_96 ?_
        refine lv_if_eq (tgt := 109) hx hb dX13_text_99 (by decide) (fun _ => ?_) (fun z_14 => absurd hw0 z_14)
        refine lv_iconst (v := 0) hx hb dX13_text_109 rfl ?_
        refine lv_istore_n (lv' := [(1, .int 0), (0, .ref (G.ad 0 0))]) hx hb dX13_text_110 rfl hl (by decide) rfl (fun ls hl => ?_)
        refine lv_iconst (v := 0) hx hb dX13_text_111 rfl ?_
        refine lv_istore_n (lv' := [(2, .int 0), (1, .int 0), (0, .ref (G.ad 0 0))]) hx hb dX13_text_112 rfl hl (by decide) rfl (fun ls hl => ?_)
        have L6 : ∀ (k6 i6 : Nat), i6 + k6 = im1 → ∀ (H : Heap) (locs : List Loc), fC (mF G) (mct G (mpg (p_tells it1 i6 d) kp as bf (md sc 0 (n_must (S1.so = 0) tp L S1) im1 sn1) fd tp it1 ws sz nu mv)) s.heap H locs → ∀ ls : Array Slot, lv_has ls 3 [(2, .int (nI i6)), (1, .int (nI i6)), (0, .ref (G.ad 0 0))] → WG p l e ({ frames := 9, cells := 0, slots := 0, locals := 197 }) s m (([.ref (G.ad 0 0)] : List Value).toArray) below meth c H locs (mF G) (fun _ : Unit => some (.int (nI im1))) (fun _ => mct G (mpg (p_tells it1 im1 d) kp as bf (md sc 0 (n_fin tp L S1) im1 sn1) fd tp it1 ws sz nu mv)) (F0 m 113 ls []) := by
          intro k6
          induction k6 with
          | zero =>
            intro i6 hi6 H locs hC ls hl
            have hi7 : i6 = im1 := by omega
            refine lv_iload_n hx hb dX13_text_113 rfl (lv_at hl 0 rfl) ?_
            refine lv_aload_n hx hb dX13_text_114 rfl (lv_at hl 2 rfl) ?_
            refine fg_get (C := RX13) (T := TX13) (N := 24) (ci := 0) (g := 0) (i := 0) (v := .int (nI im1)) hx hb hown hts hX hC in_X13 rfl (min_ (by decide)) rfl 18 (by decide) q1328 (fun _ h => h) rfl dX13_text_115 ?_
            refine fj_ge (tgt := 145) hx hb dX13_text_118 (by decide) (fun _ => ?_) (fun z_15 => absurd z_15 (nI_nlt (a := i6) (b := im1) (by omega) (by omega)))
            refine lv_iload_n hx hb dX13_text_145 rfl (lv_at hl 1 rfl) ?_
            exact fr_i hx hb hr hlocks hX hC () (congrArg (fun z => some (Value.int z)) (by rw [hi7])) ((congrArg (fun z => mct G (mpg z kp as bf (md sc 0 (n_must (S1.so = 0) tp L S1) im1 sn1) fd tp it1 ws sz nu mv)) (by rw [hi7])).trans (congrArg (fun z => mct G (mpg (p_tells it1 im1 d) kp as bf z fd tp it1 ws sz nu mv)) (rfl))) dX13_text_146
          | succ k6 ih6 =>
            intro i6 hi6 H locs hC ls hl
            refine lv_iload_n hx hb dX13_text_113 rfl (lv_at hl 0 rfl) ?_
            refine lv_aload_n hx hb dX13_text_114 rfl (lv_at hl 2 rfl) ?_
            refine fg_get (C := RX13) (T := TX13) (N := 24) (ci := 0) (g := 0) (i := 0) (v := .int (nI im1)) hx hb hown hts hX hC in_X13 rfl (min_ (by decide)) rfl 18 (by decide) q1328 (fun _ h => h) rfl dX13_text_115 ?_
            refine fj_ge (tgt := 145) hx hb dX13_text_118 (by decide) (fun z_16 => absurd (nI_lt (a := i6) (b := im1) (by omega) (by omega)) z_16) (fun _ => ?_)
            refine lv_iload_n hx hb dX13_text_121 rfl (lv_at hl 1 rfl) ?_
            refine lv_aload_n hx hb dX13_text_122 rfl (lv_at hl 2 rfl) ?_
            refine lv_iconst (v := 5) hx hb dX13_text_123 rfl ?_
            refine lv_iload_n hx hb dX13_text_124 rfl (lv_at hl 0 rfl) ?_
            refine lv_imul hx hb dX13_text_125 ?_
            rw [show (5 : Int32) = nI 5 from rfl, nI_mul]
            refine fc_V (As := [.int (nI (5 * i6))]) (rest := [.int (nI i6)]) hx hb hml hown hts hX hC (m_X13_isToldSo (hW i6 (by omega)) (5 * i6) (by omega) (hok i6 (by omega))) (lw_V q1804 q1806 qs105 q124 q1807) hdV_X13_isToldSo ⟨rfl, rfl⟩ ⟨Nat.le_of_ble_eq_true rfl, Nat.le_of_ble_eq_true rfl⟩ (fx_recv (g := 0) (i := 0) (ci := 0) (q := (RX13, TX13, 24)) hX hC (min_ (by decide)) rfl rfl) hl.1 rfl (Nat.le_of_ble_eq_true rfl) ⟨Nat.zero_le _, Nat.zero_le _⟩ dX13_text_126 (fun _ H locs hC => ?_)
            refine W.eq (g2 := F0 m 129 ls [.int (p_old it1 (5 * i6) (p_tells it1 i6 d)), .int (nI i6)]) rfl ?_
            refine fi_ge (tgt := 136) hx hb dX13_text_129 (by decide) (fun _ => ?_) (fun z_18 => absurd z_18 (old_nn (hW i6 (by omega)) (hok i6 (by omega))))
            refine lv_iconst (v := 1) hx hb dX13_text_136 rfl ?_
            refine lv_iadd hx hb dX13_text_137 ?_
            rw [nI_1]
            refine lv_istore_n (lv' := [(1, .int (nI (i6 + 1))), (2, .int (nI i6)), (0, .ref (G.ad 0 0))]) hx hb dX13_text_138 rfl hl (by decide) rfl (fun ls hl => ?_)
            refine lv_iinc (v := nI (i6 + 1)) (lv' := [(2, .int (nI (i6 + 1))), (1, .int (nI (i6 + 1))), (0, .ref (G.ad 0 0))]) hx hb dX13_text_139 hl (k := 1) rfl (nI_1 _) (by decide) rfl (fun ls hl => ?_)
            refine lv_goto (tgt := 113) hx hb dX13_text_142 (by decide) ?_
            exact ih6 (i6 + 1) (by omega) _ _ hC ls (lv_sub hl [0, 1, 2] rfl)
        exact L6 im1 0 (Nat.zero_add _) _ _ hC ls (lv_sub hl [0, 1, 2] rfl)
      · refine lv_aload_n hx hb dX13_text_40 rfl (lv_at hl 0 rfl) ?_
        refine fg_get (C := RX13) (T := TX13) (N := 24) (ci := 0) (g := 0) (i := 0) (v := .int S5.so) hx hb hown hts hX hC in_X13 rfl (min_ (by decide)) rfl 12 (by decide) q1322 (fun _ h => h) rfl dX13_text_41 ?_
        refine lv_iconst (v := 3) hx hb dX13_text_44 rfl ?_
        refine lv_icmp_ne (tgt := 74) hx hb dX13_text_45 (by decide) (fun c_19 => ?_) (fun c_19 => ?_)
        · rw [nloop_f (fun z => c_19 z.2.1)] at hq
          have e1 : S5 = S1 := congrArg (fun z => z.1) hq
          have e2 : sn5 = sn1 := congrArg (fun z => z.2.1) hq
          have e3 : it5 = it1 := congrArg (fun z => z.2.2.1) hq
          have e4 : im5 = im1 := congrArg (fun z => z.2.2.2) hq
          have hC : fC (mF G) (mct G (mpg d kp as bf (md sc L S1 im1 sn1) fd tp it1 ws sz nu mv)) s.heap H locs := by rw [← e1, ← e2, ← e3, ← e4]; exact hC
          have hS1 : SI L S1 := e1 ▸ hS5
          have him1 : im1 ≤ 120 := e4 ▸ hm5
          refine lv_aload_n hx hb dX13_text_74 rfl (lv_at hl 0 rfl) ?_
          refine lv_aload_n hx hb dX13_text_75 rfl (lv_at hl 0 rfl) ?_
          refine fg_get (C := RX13) (T := TX13) (N := 24) (ci := 0) (g := 0) (i := 0) (v := .int S1.so) hx hb hown hts hX hC in_X13 rfl (min_ (by decide)) rfl 12 (by decide) q1322 (fun _ h => h) rfl dX13_text_76 ?_
          refine fw_joinb (C := S1.so = 0) (pcj := 87) (ls := ls) (rest := [.ref (G.ad 0 0)]) (fun ja jb => ?_) ?_
          · refine lv_if_ne (tgt := 86) hx hb dX13_text_79 (by decide) (fun c_20 => ?_) (fun c_20 => ?_)
            · refine lv_iconst (v := 0) hx hb dX13_text_86 rfl ?_
              exact jb c_20
            · refine lv_iconst (v := 1) hx hb dX13_text_82 rfl ?_
              refine lv_goto (tgt := 87) hx hb dX13_text_83 (by decide) ?_
              exact ja c_20
          refine fc_V (As := [.int (b2i (S1.so = 0))]) (rest := []) hx hb hml hown hts hX hC (m_X13_must (sc := sc) (L := L) (S := S1) (im := im1) (sn := sn1) hL hS1 (S1.so = 0)) (lw_V q1769 q1771 qs98 q124 q1772) hdV_X13_must ⟨rfl, rfl⟩ ⟨Nat.le_of_ble_eq_true rfl, Nat.le_of_ble_eq_true rfl⟩ (fx_recv (g := 0) (i := 0) (ci := 0) (q := (RX13, TX13, 24)) hX hC (min_ (by decide)) rfl rfl) hl.1 rfl (Nat.le_of_ble_eq_true rfl) ⟨Nat.zero_le _, Nat.zero_le _⟩ dX13_text_87 (fun _ H locs hC => ?_)
          refine W.eq (g2 := F0 m 90 ls []) rfl ?_
          refine lv_aload_n hx hb dX13_text_90 rfl (lv_at hl 0 rfl) ?_
          refine lv_iconst (v := 0) hx hb dX13_text_91 rfl ?_
          refine W.eq (g2 := F0 m 92 ls [.int (nI 0), .ref (G.ad 0 0)]) rfl ?_
          refine fg_put (C := RX13) (T := TX13) (N := 24) (ci := 0) (g := 0) (i := 0) hx hb hown hts hX hC in_X13 tyX13 tyX13_ok nmX13 rfl (min_ (by decide)) rfl 9 (by decide) q1319 (fun _ h => h) rfl rfl rfl (Nat.le_of_ble_eq_true rfl) (mct G (mpg d kp as bf (md sc 0 (n_must (S1.so = 0) tp L S1) im1 sn1) fd tp it1 ws sz nu mv)) ms_md dX13_text_92 (fun H locs hC => ?_)
          refine lv_aload_n hx hb dX13_text_95 rfl (lv_at hl 0 rfl) ?_
          refine fg_get (C := RX13) (T := TX13) (N := 24) (ci := 0) (g := 0) (i := 0) (v := .int ((n_must (S1.so = 0) tp L S1).wr)) hx hb hown hts hX hC in_X13 rfl (min_ (by decide)) rfl 14 (by decide) q1324 (fun _ h => h) rfl dX13_text_96 ?_
          refine lv_if_eq (tgt := 109) hx hb dX13_text_99 (by decide) (fun _ => ?_) (fun z_22 => absurd hw0 z_22)
          refine lv_iconst (v := 0) hx hb dX13_text_109 rfl ?_
          refine lv_istore_n (lv' := [(1, .int 0), (0, .ref (G.ad 0 0))]) hx hb dX13_text_110 rfl hl (by decide) rfl (fun ls hl => ?_)
          refine lv_iconst (v := 0) hx hb dX13_text_111 rfl ?_
          refine lv_istore_n (lv' := [(2, .int 0), (1, .int 0), (0, .ref (G.ad 0 0))]) hx hb dX13_text_112 rfl hl (by decide) rfl (fun ls hl => ?_)
          have L6 : ∀ (k6 i6 : Nat), i6 + k6 = im1 → ∀ (H : Heap) (locs : List Loc), fC (mF G) (mct G (mpg (p_tells it1 i6 d) kp as bf (md sc 0 (n_must (S1.so = 0) tp L S1) im1 sn1) fd tp it1 ws sz nu mv)) s.heap H locs → ∀ ls : Array Slot, lv_has ls 3 [(2, .int (nI i6)), (1, .int (nI i6)), (0, .ref (G.ad 0 0))] → WG p l e ({ frames := 9, cells := 0, slots := 0, locals := 197 }) s m (([.ref (G.ad 0 0)] : List Value).toArray) below meth c H locs (mF G) (fun _ : Unit => some (.int (nI im1))) (fun _ => mct G (mpg (p_tells it1 im1 d) kp as bf (md sc 0 (n_fin tp L S1) im1 sn1) fd tp it1 ws sz nu mv)) (F0 m 113 ls []) := by
            intro k6
            induction k6 with
            | zero =>
              intro i6 hi6 H locs hC ls hl
              have hi7 : i6 = im1 := by omega
              refine lv_iload_n hx hb dX13_text_113 rfl (lv_at hl 0 rfl) ?_
              refine lv_aload_n hx hb dX13_text_114 rfl (lv_at hl 2 rfl) ?_
              refine fg_get (C := RX13) (T := TX13) (N := 24) (ci := 0) (g := 0) (i := 0) (v := .int (nI im1)) hx hb hown hts hX hC in_X13 rfl (min_ (by decide)) rfl 18 (by decide) q1328 (fun _ h => h) rfl dX13_text_115 ?_
              refine fj_ge (tgt := 145) hx hb dX13_text_118 (by decide) (fun _ => ?_) (fun z_23 => absurd z_23 (nI_nlt (a := i6) (b := im1) (by omega) (by omega)))
              refine lv_iload_n hx hb dX13_text_145 rfl (lv_at hl 1 rfl) ?_
              exact fr_i hx hb hr hlocks hX hC () (congrArg (fun z => some (Value.int z)) (by rw [hi7])) ((congrArg (fun z => mct G (mpg z kp as bf (md sc 0 (n_must (S1.so = 0) tp L S1) im1 sn1) fd tp it1 ws sz nu mv)) (by rw [hi7])).trans (congrArg (fun z => mct G (mpg (p_tells it1 im1 d) kp as bf z fd tp it1 ws sz nu mv)) (rfl))) dX13_text_146
            | succ k6 ih6 =>
              intro i6 hi6 H locs hC ls hl
              refine lv_iload_n hx hb dX13_text_113 rfl (lv_at hl 0 rfl) ?_
              refine lv_aload_n hx hb dX13_text_114 rfl (lv_at hl 2 rfl) ?_
              refine fg_get (C := RX13) (T := TX13) (N := 24) (ci := 0) (g := 0) (i := 0) (v := .int (nI im1)) hx hb hown hts hX hC in_X13 rfl (min_ (by decide)) rfl 18 (by decide) q1328 (fun _ h => h) rfl dX13_text_115 ?_
              refine fj_ge (tgt := 145) hx hb dX13_text_118 (by decide) (fun z_24 => absurd (nI_lt (a := i6) (b := im1) (by omega) (by omega)) z_24) (fun _ => ?_)
              refine lv_iload_n hx hb dX13_text_121 rfl (lv_at hl 1 rfl) ?_
              refine lv_aload_n hx hb dX13_text_122 rfl (lv_at hl 2 rfl) ?_
              refine lv_iconst (v := 5) hx hb dX13_text_123 rfl ?_
              refine lv_iload_n hx hb dX13_text_124 rfl (lv_at hl 0 rfl) ?_
              refine lv_imul hx hb dX13_text_125 ?_
              rw [show (5 : Int32) = nI 5 from rfl, nI_mul]
              refine fc_V (As := [.int (nI (5 * i6))]) (rest := [.int (nI i6)]) hx hb hml hown hts hX hC (m_X13_isToldSo (hW i6 (by omega)) (5 * i6) (by omega) (hok i6 (by omega))) (lw_V q1804 q1806 qs105 q124 q1807) hdV_X13_isToldSo ⟨rfl, rfl⟩ ⟨Nat.le_of_ble_eq_true rfl, Nat.le_of_ble_eq_true rfl⟩ (fx_recv (g := 0) (i := 0) (ci := 0) (q := (RX13, TX13, 24)) hX hC (min_ (by decide)) rfl rfl) hl.1 rfl (Nat.le_of_ble_eq_true rfl) ⟨Nat.zero_le _, Nat.zero_le _⟩ dX13_text_126 (fun _ H locs hC => ?_)
              refine W.eq (g2 := F0 m 129 ls [.int (p_old it1 (5 * i6) (p_tells it1 i6 d)), .int (nI i6)]) rfl ?_
              refine fi_ge (tgt := 136) hx hb dX13_text_129 (by decide) (fun _ => ?_) (fun z_26 => absurd z_26 (old_nn (hW i6 (by omega)) (hok i6 (by omega))))
              refine lv_iconst (v := 1) hx hb dX13_text_136 rfl ?_
              refine lv_iadd hx hb dX13_text_137 ?_
              rw [nI_1]
              refine lv_istore_n (lv' := [(1, .int (nI (i6 + 1))), (2, .int (nI i6)), (0, .ref (G.ad 0 0))]) hx hb dX13_text_138 rfl hl (by decide) rfl (fun ls hl => ?_)
              refine lv_iinc (v := nI (i6 + 1)) (lv' := [(2, .int (nI (i6 + 1))), (1, .int (nI (i6 + 1))), (0, .ref (G.ad 0 0))]) hx hb dX13_text_139 hl (k := 1) rfl (nI_1 _) (by decide) rfl (fun ls hl => ?_)
              refine lv_goto (tgt := 113) hx hb dX13_text_142 (by decide) ?_
              exact ih6 (i6 + 1) (by omega) _ _ hC ls (lv_sub hl [0, 1, 2] rfl)
          exact L6 im1 0 (Nat.zero_add _) _ _ hC ls (lv_sub hl [0, 1, 2] rfl)
        · have hb4 : S5.bg < 120 := by rcases hS5.2.2 with q | q; exact absurd (q.symm.trans c_19) (by decide); have := hS5.2.1; omega
          refine lv_aload_n hx hb dX13_text_48 rfl (lv_at hl 0 rfl) ?_
          refine fg_get (C := RX13) (T := TX13) (N := 24) (ci := 0) (g := 0) (i := 0) (v := .ref (G.ad 0 6)) hx hb hown hts hX hC in_X13 rfl (min_ (by decide)) rfl 8 (by decide) q1318 (fun _ h => h) rfl dX13_text_49 ?_
          refine lv_aload_n hx hb dX13_text_52 rfl (lv_at hl 0 rfl) ?_
          refine fg_get (C := RX13) (T := TX13) (N := 24) (ci := 0) (g := 0) (i := 0) (v := .int (nI S5.bg)) hx hb hown hts hX hC in_X13 rfl (min_ (by decide)) rfl 10 (by decide) q1320 (fun _ h => h) rfl dX13_text_53 ?_
          refine fg_iald (g := 0) (i := 6) (t0 := 0) (v := (mt tp) S5.bg) hx hb hX hC (min_ (by decide)) rfl rfl (vp_in_nI (show S5.bg < 120 by omega) (by decide)) (congrArg (mt tp) (nI_clamp (by omega))) dX13_text_56 ?_
          refine lv_bipush (v := 59) hx hb dX13_text_57 rfl ?_
          refine lv_icmp_ne (tgt := 74) hx hb dX13_text_59 (by decide) (fun c_27 => ?_) (fun c_27 => ?_)
          · rw [nloop_f (fun z => c_27 z.2.2)] at hq
            have e1 : S5 = S1 := congrArg (fun z => z.1) hq
            have e2 : sn5 = sn1 := congrArg (fun z => z.2.1) hq
            have e3 : it5 = it1 := congrArg (fun z => z.2.2.1) hq
            have e4 : im5 = im1 := congrArg (fun z => z.2.2.2) hq
            have hC : fC (mF G) (mct G (mpg d kp as bf (md sc L S1 im1 sn1) fd tp it1 ws sz nu mv)) s.heap H locs := by rw [← e1, ← e2, ← e3, ← e4]; exact hC
            have hS1 : SI L S1 := e1 ▸ hS5
            have him1 : im1 ≤ 120 := e4 ▸ hm5
            refine lv_aload_n hx hb dX13_text_74 rfl (lv_at hl 0 rfl) ?_
            refine lv_aload_n hx hb dX13_text_75 rfl (lv_at hl 0 rfl) ?_
            refine fg_get (C := RX13) (T := TX13) (N := 24) (ci := 0) (g := 0) (i := 0) (v := .int S1.so) hx hb hown hts hX hC in_X13 rfl (min_ (by decide)) rfl 12 (by decide) q1322 (fun _ h => h) rfl dX13_text_76 ?_
            refine fw_joinb (C := S1.so = 0) (pcj := 87) (ls := ls) (rest := [.ref (G.ad 0 0)]) (fun ja jb => ?_) ?_
            · refine lv_if_ne (tgt := 86) hx hb dX13_text_79 (by decide) (fun c_28 => ?_) (fun c_28 => ?_)
              · refine lv_iconst (v := 0) hx hb dX13_text_86 rfl ?_
                exact jb c_28
              · refine lv_iconst (v := 1) hx hb dX13_text_82 rfl ?_
                refine lv_goto (tgt := 87) hx hb dX13_text_83 (by decide) ?_
                exact ja c_28
            refine fc_V (As := [.int (b2i (S1.so = 0))]) (rest := []) hx hb hml hown hts hX hC (m_X13_must (sc := sc) (L := L) (S := S1) (im := im1) (sn := sn1) hL hS1 (S1.so = 0)) (lw_V q1769 q1771 qs98 q124 q1772) hdV_X13_must ⟨rfl, rfl⟩ ⟨Nat.le_of_ble_eq_true rfl, Nat.le_of_ble_eq_true rfl⟩ (fx_recv (g := 0) (i := 0) (ci := 0) (q := (RX13, TX13, 24)) hX hC (min_ (by decide)) rfl rfl) hl.1 rfl (Nat.le_of_ble_eq_true rfl) ⟨Nat.zero_le _, Nat.zero_le _⟩ dX13_text_87 (fun _ H locs hC => ?_)
            refine W.eq (g2 := F0 m 90 ls []) rfl ?_
            refine lv_aload_n hx hb dX13_text_90 rfl (lv_at hl 0 rfl) ?_
            refine lv_iconst (v := 0) hx hb dX13_text_91 rfl ?_
            refine W.eq (g2 := F0 m 92 ls [.int (nI 0), .ref (G.ad 0 0)]) rfl ?_
            refine fg_put (C := RX13) (T := TX13) (N := 24) (ci := 0) (g := 0) (i := 0) hx hb hown hts hX hC in_X13 tyX13 tyX13_ok nmX13 rfl (min_ (by decide)) rfl 9 (by decide) q1319 (fun _ h => h) rfl rfl rfl (Nat.le_of_ble_eq_true rfl) (mct G (mpg d kp as bf (md sc 0 (n_must (S1.so = 0) tp L S1) im1 sn1) fd tp it1 ws sz nu mv)) ms_md dX13_text_92 (fun H locs hC => ?_)
            refine lv_aload_n hx hb dX13_text_95 rfl (lv_at hl 0 rfl) ?_
            refine fg_get (C := RX13) (T := TX13) (N := 24) (ci := 0) (g := 0) (i := 0) (v := .int ((n_must (S1.so = 0) tp L S1).wr)) hx hb hown hts hX hC in_X13 rfl (min_ (by decide)) rfl 14 (by decide) q1324 (fun _ h => h) rfl dX13_text_96 ?_
            refine lv_if_eq (tgt := 109) hx hb dX13_text_99 (by decide) (fun _ => ?_) (fun z_30 => absurd hw0 z_30)
            refine lv_iconst (v := 0) hx hb dX13_text_109 rfl ?_
            refine lv_istore_n (lv' := [(1, .int 0), (0, .ref (G.ad 0 0))]) hx hb dX13_text_110 rfl hl (by decide) rfl (fun ls hl => ?_)
            refine lv_iconst (v := 0) hx hb dX13_text_111 rfl ?_
            refine lv_istore_n (lv' := [(2, .int 0), (1, .int 0), (0, .ref (G.ad 0 0))]) hx hb dX13_text_112 rfl hl (by decide) rfl (fun ls hl => ?_)
            have L6 : ∀ (k6 i6 : Nat), i6 + k6 = im1 → ∀ (H : Heap) (locs : List Loc), fC (mF G) (mct G (mpg (p_tells it1 i6 d) kp as bf (md sc 0 (n_must (S1.so = 0) tp L S1) im1 sn1) fd tp it1 ws sz nu mv)) s.heap H locs → ∀ ls : Array Slot, lv_has ls 3 [(2, .int (nI i6)), (1, .int (nI i6)), (0, .ref (G.ad 0 0))] → WG p l e ({ frames := 9, cells := 0, slots := 0, locals := 197 }) s m (([.ref (G.ad 0 0)] : List Value).toArray) below meth c H locs (mF G) (fun _ : Unit => some (.int (nI im1))) (fun _ => mct G (mpg (p_tells it1 im1 d) kp as bf (md sc 0 (n_fin tp L S1) im1 sn1) fd tp it1 ws sz nu mv)) (F0 m 113 ls []) := by
              intro k6
              induction k6 with
              | zero =>
                intro i6 hi6 H locs hC ls hl
                have hi7 : i6 = im1 := by omega
                refine lv_iload_n hx hb dX13_text_113 rfl (lv_at hl 0 rfl) ?_
                refine lv_aload_n hx hb dX13_text_114 rfl (lv_at hl 2 rfl) ?_
                refine fg_get (C := RX13) (T := TX13) (N := 24) (ci := 0) (g := 0) (i := 0) (v := .int (nI im1)) hx hb hown hts hX hC in_X13 rfl (min_ (by decide)) rfl 18 (by decide) q1328 (fun _ h => h) rfl dX13_text_115 ?_
                refine fj_ge (tgt := 145) hx hb dX13_text_118 (by decide) (fun _ => ?_) (fun z_31 => absurd z_31 (nI_nlt (a := i6) (b := im1) (by omega) (by omega)))
                refine lv_iload_n hx hb dX13_text_145 rfl (lv_at hl 1 rfl) ?_
                exact fr_i hx hb hr hlocks hX hC () (congrArg (fun z => some (Value.int z)) (by rw [hi7])) ((congrArg (fun z => mct G (mpg z kp as bf (md sc 0 (n_must (S1.so = 0) tp L S1) im1 sn1) fd tp it1 ws sz nu mv)) (by rw [hi7])).trans (congrArg (fun z => mct G (mpg (p_tells it1 im1 d) kp as bf z fd tp it1 ws sz nu mv)) (rfl))) dX13_text_146
              | succ k6 ih6 =>
                intro i6 hi6 H locs hC ls hl
                refine lv_iload_n hx hb dX13_text_113 rfl (lv_at hl 0 rfl) ?_
                refine lv_aload_n hx hb dX13_text_114 rfl (lv_at hl 2 rfl) ?_
                refine fg_get (C := RX13) (T := TX13) (N := 24) (ci := 0) (g := 0) (i := 0) (v := .int (nI im1)) hx hb hown hts hX hC in_X13 rfl (min_ (by decide)) rfl 18 (by decide) q1328 (fun _ h => h) rfl dX13_text_115 ?_
                refine fj_ge (tgt := 145) hx hb dX13_text_118 (by decide) (fun z_32 => absurd (nI_lt (a := i6) (b := im1) (by omega) (by omega)) z_32) (fun _ => ?_)
                refine lv_iload_n hx hb dX13_text_121 rfl (lv_at hl 1 rfl) ?_
                refine lv_aload_n hx hb dX13_text_122 rfl (lv_at hl 2 rfl) ?_
                refine lv_iconst (v := 5) hx hb dX13_text_123 rfl ?_
                refine lv_iload_n hx hb dX13_text_124 rfl (lv_at hl 0 rfl) ?_
                refine lv_imul hx hb dX13_text_125 ?_
                rw [show (5 : Int32) = nI 5 from rfl, nI_mul]
                refine fc_V (As := [.int (nI (5 * i6))]) (rest := [.int (nI i6)]) hx hb hml hown hts hX hC (m_X13_isToldSo (hW i6 (by omega)) (5 * i6) (by omega) (hok i6 (by omega))) (lw_V q1804 q1806 qs105 q124 q1807) hdV_X13_isToldSo ⟨rfl, rfl⟩ ⟨Nat.le_of_ble_eq_true rfl, Nat.le_of_ble_eq_true rfl⟩ (fx_recv (g := 0) (i := 0) (ci := 0) (q := (RX13, TX13, 24)) hX hC (min_ (by decide)) rfl rfl) hl.1 rfl (Nat.le_of_ble_eq_true rfl) ⟨Nat.zero_le _, Nat.zero_le _⟩ dX13_text_126 (fun _ H locs hC => ?_)
                refine W.eq (g2 := F0 m 129 ls [.int (p_old it1 (5 * i6) (p_tells it1 i6 d)), .int (nI i6)]) rfl ?_
                refine fi_ge (tgt := 136) hx hb dX13_text_129 (by decide) (fun _ => ?_) (fun z_34 => absurd z_34 (old_nn (hW i6 (by omega)) (hok i6 (by omega))))
                refine lv_iconst (v := 1) hx hb dX13_text_136 rfl ?_
                refine lv_iadd hx hb dX13_text_137 ?_
                rw [nI_1]
                refine lv_istore_n (lv' := [(1, .int (nI (i6 + 1))), (2, .int (nI i6)), (0, .ref (G.ad 0 0))]) hx hb dX13_text_138 rfl hl (by decide) rfl (fun ls hl => ?_)
                refine lv_iinc (v := nI (i6 + 1)) (lv' := [(2, .int (nI (i6 + 1))), (1, .int (nI (i6 + 1))), (0, .ref (G.ad 0 0))]) hx hb dX13_text_139 hl (k := 1) rfl (nI_1 _) (by decide) rfl (fun ls hl => ?_)
                refine lv_goto (tgt := 113) hx hb dX13_text_142 (by decide) ?_
                exact ih6 (i6 + 1) (by omega) _ _ hC ls (lv_sub hl [0, 1, 2] rfl)
            exact L6 im1 0 (Nat.zero_add _) _ _ hC ls (lv_sub hl [0, 1, 2] rfl)
          · have c5a := c_11
            have hb5 : S5.bg < 120 := by rcases hS5.2.2 with q | q; exact absurd (q.symm.trans c_19) (by decide); have := hS5.2.1; omega
            have him5 : im5 < 120 := by have := hi5 c5a; omega
            rw [nloop_t ⟨c_11, c_19, c_27⟩] at hq
            refine lv_aload_n hx hb dX13_text_62 rfl (lv_at hl 0 rfl) ?_
            refine lv_iconst (v := 1) hx hb dX13_text_63 rfl ?_
            refine fc_V (As := [.int 1]) (rest := []) hx hb hml hown hts hX hC (m_X13_must (sc := sc) (L := L) (S := S5) (im := im5) (sn := sn5) hL hS5 True) (lw_V q1769 q1771 qs98 q124 q1772) hdV_X13_must ⟨rfl, rfl⟩ ⟨Nat.le_of_ble_eq_true rfl, Nat.le_of_ble_eq_true rfl⟩ (fx_recv (g := 0) (i := 0) (ci := 0) (q := (RX13, TX13, 24)) hX hC (min_ (by decide)) rfl rfl) hl.1 rfl (Nat.le_of_ble_eq_true rfl) ⟨Nat.zero_le _, Nat.zero_le _⟩ dX13_text_64 (fun _ H locs hC => ?_)
            refine W.eq (g2 := F0 m 67 ls []) rfl ?_
            refine lv_aload_n hx hb dX13_text_67 rfl (lv_at hl 0 rfl) ?_
            refine fc_V (As := []) (rest := []) hx hb hml hown hts hX hC (m_X13_readItem (sc := sc) (L := L) (S := (n_must True tp L S5)) (im := im5) (sn := sn5) hL (nmust_I hL hS5) him5) (lw_V q1748 q1750 qs95 q124 q1751) hdV_X13_readItem ⟨rfl, rfl⟩ ⟨Nat.le_of_ble_eq_true rfl, Nat.le_of_ble_eq_true rfl⟩ (fx_recv (g := 0) (i := 0) (ci := 0) (q := (RX13, TX13, 24)) hX hC (min_ (by decide)) rfl rfl) hl.1 rfl (Nat.le_of_ble_eq_true rfl) ⟨Nat.zero_le _, Nat.zero_le _⟩ dX13_text_68 (fun _ H locs hC => ?_)
            refine W.eq (g2 := F0 m 71 ls []) rfl ?_
            refine lv_goto (tgt := 33) hx hb dX13_text_71 (by decide) ?_
            exact ih5 _ _ _ _ (nitem_I hL (nmust_I hL hS5)) (fun z => by have := nround hL hS5 c5a z; have := (nitem_I (tp := tp) (sn := sn5) hL (nmust_I (P := True) (tp := tp) hL hS5)).1; have := hk5 c5a; omega) (fun z => by have := nround hL hS5 c5a z; have := hi5 c5a; have := hS5.1; omega) (by omega) hq _ _ hC ls (lv_sub hl [0] rfl)
  exact L5 121 _ _ _ _ (nitem_I hL (nstart_I hL)) (fun _ => Nat.le_add_left _ _) (fun z => nfirst hL z) (by decide) hq _ _ hC ls (lv_sub hl [0] rfl)
set_option maxRecDepth 100000 in
theorem m_X13_text_F {l : Launch} {G : Gm} {d kp as bf sc fd tp it ws sz nu mv : Row} {L im1 : Nat} {S1 : MSt} {sn1 : Int32} {it1 : Row} (hL : L ≤ 120) (hsc : sc 3 = nI L) (hq : n_read tp L (d 1) it = (S1, sn1, it1, im1)) (hw0 : ¬ (n_fin tp L S1).wr = 0) : Cm l yX13_text (ws_ yX13_text cX13_text 3 (some .int)) ({ frames := 9, cells := 0, slots := 0, locals := 197 }) (mF G) [.ref (G.ad 0 0)] (mct G (mpg d kp as bf sc fd tp it ws sz nu mv)) (fun _ : Unit => some (.int (-1 - nI (n_fin tp L S1).bg))) (fun _ => mct G (mpg d kp as bf (md sc 0 (n_fin tp L S1) im1 sn1) fd tp it1 ws sz nu mv)) := by
  refine Cm.start (by decide) (Nat.le_of_ble_eq_true rfl) ?_
  intro p e s m below meth c hf hX hC ls hl
  obtain ⟨hx, hb, hr, hml, hown, hts, hlocks⟩ := hf
  have hl : lv_has ls 3 [(0, .ref (G.ad 0 0))] := hl
  have hown : s.vm.findClass "OwlEarsModel" = some m.cls := hown
  obtain ⟨b0, e0, im0, hmd⟩ := md_ex hsc
  have hC := (congrArg (fun z => fC (mF G) (mct G (mpg d kp as bf z fd tp it ws sz nu mv)) s.heap _ _) (hmd)).mp hC
  refine lv_aload_n hx hb dX13_text_0 rfl (lv_at hl 0 rfl) ?_
  refine lv_iconst (v := 0) hx hb dX13_text_1 rfl ?_
  refine W.eq (g2 := F0 m 2 ls [.int (nI 0), .ref (G.ad 0 0)]) rfl ?_
  refine fg_put (C := RX13) (T := TX13) (N := 24) (ci := 0) (g := 0) (i := 0) hx hb hown hts hX hC in_X13 tyX13 tyX13_ok nmX13 rfl (min_ (by decide)) rfl 11 (by decide) q1321 (fun _ h => h) rfl rfl rfl (Nat.le_of_ble_eq_true rfl) (mct G (mpg d kp as bf (md sc L (⟨b0, 0, sc 6, sc 7, sc 8⟩ : MSt) im0 (sc 10)) fd tp it ws sz nu mv)) ms_md dX13_text_2 (fun H locs hC => ?_)
  refine lv_aload_n hx hb dX13_text_5 rfl (lv_at hl 0 rfl) ?_
  refine lv_iconst (v := 0) hx hb dX13_text_6 rfl ?_
  refine fg_put (C := RX13) (T := TX13) (N := 24) (ci := 0) (g := 0) (i := 0) hx hb hown hts hX hC in_X13 tyX13 tyX13_ok nmX13 rfl (min_ (by decide)) rfl 14 (by decide) q1324 (fun _ h => h) rfl rfl rfl (Nat.le_of_ble_eq_true rfl) (mct G (mpg d kp as bf (md sc L (⟨b0, 0, sc 6, sc 7, 0⟩ : MSt) im0 (sc 10)) fd tp it ws sz nu mv)) ms_md dX13_text_7 (fun H locs hC => ?_)
  refine lv_aload_n hx hb dX13_text_10 rfl (lv_at hl 0 rfl) ?_
  refine lv_iconst (v := 0) hx hb dX13_text_11 rfl ?_
  refine W.eq (g2 := F0 m 12 ls [.int (nI 0), .ref (G.ad 0 0)]) rfl ?_
  refine fg_put (C := RX13) (T := TX13) (N := 24) (ci := 0) (g := 0) (i := 0) hx hb hown hts hX hC in_X13 tyX13 tyX13_ok nmX13 rfl (min_ (by decide)) rfl 18 (by decide) q1328 (fun _ h => h) rfl rfl rfl (Nat.le_of_ble_eq_true rfl) (mct G (mpg d kp as bf (md sc L (⟨b0, 0, sc 6, sc 7, 0⟩ : MSt) 0 (sc 10)) fd tp it ws sz nu mv)) ms_md dX13_text_12 (fun H locs hC => ?_)
  refine lv_aload_n hx hb dX13_text_15 rfl (lv_at hl 0 rfl) ?_
  refine lv_aload_n hx hb dX13_text_16 rfl (lv_at hl 0 rfl) ?_
  refine fg_get (C := RX13) (T := TX13) (N := 24) (ci := 0) (g := 0) (i := 0) (v := .ref (G.ad 0 1)) hx hb hown hts hX hC in_X13 rfl (min_ (by decide)) rfl 0 (by decide) q1310 (fun _ h => h) rfl dX13_text_17 ?_
  refine lv_iconst (v := 1) hx hb dX13_text_20 rfl ?_
  refine fg_iald (g := 0) (i := 1) (t0 := 0) (v := d 1) hx hb hX hC (min_ (by decide)) rfl rfl (vin_b rfl) rfl dX13_text_21 ?_
  refine fg_put (C := RX13) (T := TX13) (N := 24) (ci := 0) (g := 0) (i := 0) hx hb hown hts hX hC in_X13 tyX13 tyX13_ok nmX13 rfl (min_ (by decide)) rfl 19 (by decide) q1329 (fun _ h => h) rfl rfl rfl (Nat.le_of_ble_eq_true rfl) (mct G (mpg d kp as bf (md sc L (⟨b0, 0, sc 6, sc 7, 0⟩ : MSt) 0 (d 1)) fd tp it ws sz nu mv)) ms_md dX13_text_22 (fun H locs hC => ?_)
  refine lv_aload_n hx hb dX13_text_25 rfl (lv_at hl 0 rfl) ?_
  refine fc_V (As := []) (rest := []) hx hb hml hown hts hX hC (m_X13_next (sc := sc) (L := L) (S := (⟨b0, 0, sc 6, sc 7, 0⟩ : MSt)) (im := 0) (sn := (d 1)) hL (Nat.zero_le L)) (lw_V q1740 q1742 qs93 q124 q1743) hdV_X13_next ⟨rfl, rfl⟩ ⟨Nat.le_of_ble_eq_true rfl, Nat.le_of_ble_eq_true rfl⟩ (fx_recv (g := 0) (i := 0) (ci := 0) (q := (RX13, TX13, 24)) hX hC (min_ (by decide)) rfl rfl) hl.1 rfl (Nat.le_of_ble_eq_true rfl) ⟨Nat.zero_le _, Nat.zero_le _⟩ dX13_text_26 (fun _ H locs hC => ?_)
  refine W.eq (g2 := F0 m 29 ls []) rfl ?_
  have hC : fC (mF G) (mct G (mpg d kp as bf (md sc L (n_start tp L) 0 (d 1)) fd tp it ws sz nu mv)) s.heap _ _ := hC
  refine lv_aload_n hx hb dX13_text_29 rfl (lv_at hl 0 rfl) ?_
  refine fc_V (As := []) (rest := []) hx hb hml hown hts hX hC (m_X13_readItem (sc := sc) (L := L) (S := (n_start tp L)) (im := 0) (sn := (d 1)) hL (nstart_I hL) (by decide)) (lw_V q1748 q1750 qs95 q124 q1751) hdV_X13_readItem ⟨rfl, rfl⟩ ⟨Nat.le_of_ble_eq_true rfl, Nat.le_of_ble_eq_true rfl⟩ (fx_recv (g := 0) (i := 0) (ci := 0) (q := (RX13, TX13, 24)) hX hC (min_ (by decide)) rfl rfl) hl.1 rfl (Nat.le_of_ble_eq_true rfl) ⟨Nat.zero_le _, Nat.zero_le _⟩ dX13_text_30 (fun _ H locs hC => ?_)
  refine W.eq (g2 := F0 m 33 ls []) rfl ?_
  have L5 : ∀ (k5 : Nat) (S5 : MSt) (sn5 : Int32) (it5 : Row) (im5 : Nat), SI L S5 → (S5.wr = 0 → 121 ≤ S5.en + k5) → (S5.wr = 0 → im5 ≤ S5.bg) → im5 ≤ 120 → n_loop tp L k5 S5 sn5 it5 im5 = (S1, sn1, it1, im1) → ∀ (H : Heap) (locs : List Loc), fC (mF G) (mct G (mpg d kp as bf (md sc L S5 im5 sn5) fd tp it5 ws sz nu mv)) s.heap H locs → ∀ ls : Array Slot, lv_has ls 3 [(0, .ref (G.ad 0 0))] → WG p l e ({ frames := 9, cells := 0, slots := 0, locals := 197 }) s m (([.ref (G.ad 0 0)] : List Value).toArray) below meth c H locs (mF G) (fun _ : Unit => some (.int (-1 - nI (n_fin tp L S1).bg))) (fun _ => mct G (mpg d kp as bf (md sc 0 (n_fin tp L S1) im1 sn1) fd tp it1 ws sz nu mv)) (F0 m 33 ls []) := by
    clear hq
    intro k5
    induction k5 with
    | zero =>
      intro S5 sn5 it5 im5 hS5 hk5 hi5 hm5 hq H locs hC ls hl
      have hz5 : ¬ S5.wr = 0 := fun z => by have := hk5 z; have := hS5.2.1; omega
      refine lv_aload_n hx hb dX13_text_33 rfl (lv_at hl 0 rfl) ?_
      refine fg_get (C := RX13) (T := TX13) (N := 24) (ci := 0) (g := 0) (i := 0) (v := .int S5.wr) hx hb hown hts hX hC in_X13 rfl (min_ (by decide)) rfl 14 (by decide) q1324 (fun _ h => h) rfl dX13_text_34 ?_
      refine lv_if_ne (tgt := 74) hx hb dX13_text_37 (by decide) (fun _ => ?_) (fun z_3 => absurd z_3 hz5)
      rw [nloop_f (fun z => hz5 z.1)] at hq
      have e1 : S5 = S1 := congrArg (fun z => z.1) hq
      have e2 : sn5 = sn1 := congrArg (fun z => z.2.1) hq
      have e3 : it5 = it1 := congrArg (fun z => z.2.2.1) hq
      have e4 : im5 = im1 := congrArg (fun z => z.2.2.2) hq
      have hC : fC (mF G) (mct G (mpg d kp as bf (md sc L S1 im1 sn1) fd tp it1 ws sz nu mv)) s.heap H locs := by rw [← e1, ← e2, ← e3, ← e4]; exact hC
      have hS1 : SI L S1 := e1 ▸ hS5
      have him1 : im1 ≤ 120 := e4 ▸ hm5
      refine lv_aload_n hx hb dX13_text_74 rfl (lv_at hl 0 rfl) ?_
      refine lv_aload_n hx hb dX13_text_75 rfl (lv_at hl 0 rfl) ?_
      refine fg_get (C := RX13) (T := TX13) (N := 24) (ci := 0) (g := 0) (i := 0) (v := .int S1.so) hx hb hown hts hX hC in_X13 rfl (min_ (by decide)) rfl 12 (by decide) q1322 (fun _ h => h) rfl dX13_text_76 ?_
      refine fw_joinb (C := S1.so = 0) (pcj := 87) (ls := ls) (rest := [.ref (G.ad 0 0)]) (fun ja jb => ?_) ?_
      · refine lv_if_ne (tgt := 86) hx hb dX13_text_79 (by decide) (fun c_4 => ?_) (fun c_4 => ?_)
        · refine lv_iconst (v := 0) hx hb dX13_text_86 rfl ?_
          exact jb c_4
        · refine lv_iconst (v := 1) hx hb dX13_text_82 rfl ?_
          refine lv_goto (tgt := 87) hx hb dX13_text_83 (by decide) ?_
          exact ja c_4
      refine fc_V (As := [.int (b2i (S1.so = 0))]) (rest := []) hx hb hml hown hts hX hC (m_X13_must (sc := sc) (L := L) (S := S1) (im := im1) (sn := sn1) hL hS1 (S1.so = 0)) (lw_V q1769 q1771 qs98 q124 q1772) hdV_X13_must ⟨rfl, rfl⟩ ⟨Nat.le_of_ble_eq_true rfl, Nat.le_of_ble_eq_true rfl⟩ (fx_recv (g := 0) (i := 0) (ci := 0) (q := (RX13, TX13, 24)) hX hC (min_ (by decide)) rfl rfl) hl.1 rfl (Nat.le_of_ble_eq_true rfl) ⟨Nat.zero_le _, Nat.zero_le _⟩ dX13_text_87 (fun _ H locs hC => ?_)
      refine W.eq (g2 := F0 m 90 ls []) rfl ?_
      refine lv_aload_n hx hb dX13_text_90 rfl (lv_at hl 0 rfl) ?_
      refine lv_iconst (v := 0) hx hb dX13_text_91 rfl ?_
      refine W.eq (g2 := F0 m 92 ls [.int (nI 0), .ref (G.ad 0 0)]) rfl ?_
      refine fg_put (C := RX13) (T := TX13) (N := 24) (ci := 0) (g := 0) (i := 0) hx hb hown hts hX hC in_X13 tyX13 tyX13_ok nmX13 rfl (min_ (by decide)) rfl 9 (by decide) q1319 (fun _ h => h) rfl rfl rfl (Nat.le_of_ble_eq_true rfl) (mct G (mpg d kp as bf (md sc 0 (n_must (S1.so = 0) tp L S1) im1 sn1) fd tp it1 ws sz nu mv)) ms_md dX13_text_92 (fun H locs hC => ?_)
      refine lv_aload_n hx hb dX13_text_95 rfl (lv_at hl 0 rfl) ?_
      refine fg_get (C := RX13) (T := TX13) (N := 24) (ci := 0) (g := 0) (i := 0) (v := .int ((n_must (S1.so = 0) tp L S1).wr)) hx hb hown hts hX hC in_X13 rfl (min_ (by decide)) rfl 14 (by decide) q1324 (fun _ h => h) rfl dX13_text_96 ?_
      refine lv_if_eq (tgt := 109) hx hb dX13_text_99 (by decide) (fun z_6 => absurd z_6 hw0) (fun _ => ?_)
      refine lv_iconst (v := (-1)) hx hb dX13_text_102 rfl ?_
      refine lv_aload_n hx hb dX13_text_103 rfl (lv_at hl 0 rfl) ?_
      refine fg_get (C := RX13) (T := TX13) (N := 24) (ci := 0) (g := 0) (i := 0) (v := .int (nI ((n_must (S1.so = 0) tp L S1).bg))) hx hb hown hts hX hC in_X13 rfl (min_ (by decide)) rfl 10 (by decide) q1320 (fun _ h => h) rfl dX13_text_104 ?_
      refine lv_isub hx hb dX13_text_107 ?_
      exact fr_i hx hb hr hlocks hX hC () (congrArg (fun z => some (Value.int z)) (rfl)) (congrArg (fun z => mct G (mpg d kp as bf z fd tp it1 ws sz nu mv)) (rfl)) dX13_text_108
    | succ k5 ih5 =>
      intro S5 sn5 it5 im5 hS5 hk5 hi5 hm5 hq H locs hC ls hl
      refine lv_aload_n hx hb dX13_text_33 rfl (lv_at hl 0 rfl) ?_
      refine fg_get (C := RX13) (T := TX13) (N := 24) (ci := 0) (g := 0) (i := 0) (v := .int S5.wr) hx hb hown hts hX hC in_X13 rfl (min_ (by decide)) rfl 14 (by decide) q1324 (fun _ h => h) rfl dX13_text_34 ?_
      refine lv_if_ne (tgt := 74) hx hb dX13_text_37 (by decide) (fun c_7 => ?_) (fun c_7 => ?_)
      · rw [nloop_f (fun z => c_7 z.1)] at hq
        have e1 : S5 = S1 := congrArg (fun z => z.1) hq
        have e2 : sn5 = sn1 := congrArg (fun z => z.2.1) hq
        have e3 : it5 = it1 := congrArg (fun z => z.2.2.1) hq
        have e4 : im5 = im1 := congrArg (fun z => z.2.2.2) hq
        have hC : fC (mF G) (mct G (mpg d kp as bf (md sc L S1 im1 sn1) fd tp it1 ws sz nu mv)) s.heap H locs := by rw [← e1, ← e2, ← e3, ← e4]; exact hC
        have hS1 : SI L S1 := e1 ▸ hS5
        have him1 : im1 ≤ 120 := e4 ▸ hm5
        refine lv_aload_n hx hb dX13_text_74 rfl (lv_at hl 0 rfl) ?_
        refine lv_aload_n hx hb dX13_text_75 rfl (lv_at hl 0 rfl) ?_
        refine fg_get (C := RX13) (T := TX13) (N := 24) (ci := 0) (g := 0) (i := 0) (v := .int S1.so) hx hb hown hts hX hC in_X13 rfl (min_ (by decide)) rfl 12 (by decide) q1322 (fun _ h => h) rfl dX13_text_76 ?_
        refine fw_joinb (C := S1.so = 0) (pcj := 87) (ls := ls) (rest := [.ref (G.ad 0 0)]) (fun ja jb => ?_) ?_
        · refine lv_if_ne (tgt := 86) hx hb dX13_text_79 (by decide) (fun c_8 => ?_) (fun c_8 => ?_)
          · refine lv_iconst (v := 0) hx hb dX13_text_86 rfl ?_
            exact jb c_8
          · refine lv_iconst (v := 1) hx hb dX13_text_82 rfl ?_
            refine lv_goto (tgt := 87) hx hb dX13_text_83 (by decide) ?_
            exact ja c_8
        refine fc_V (As := [.int (b2i (S1.so = 0))]) (rest := []) hx hb hml hown hts hX hC (m_X13_must (sc := sc) (L := L) (S := S1) (im := im1) (sn := sn1) hL hS1 (S1.so = 0)) (lw_V q1769 q1771 qs98 q124 q1772) hdV_X13_must ⟨rfl, rfl⟩ ⟨Nat.le_of_ble_eq_true rfl, Nat.le_of_ble_eq_true rfl⟩ (fx_recv (g := 0) (i := 0) (ci := 0) (q := (RX13, TX13, 24)) hX hC (min_ (by decide)) rfl rfl) hl.1 rfl (Nat.le_of_ble_eq_true rfl) ⟨Nat.zero_le _, Nat.zero_le _⟩ dX13_text_87 (fun _ H locs hC => ?_)
        refine W.eq (g2 := F0 m 90 ls []) rfl ?_
        refine lv_aload_n hx hb dX13_text_90 rfl (lv_at hl 0 rfl) ?_
        refine lv_iconst (v := 0) hx hb dX13_text_91 rfl ?_
        refine W.eq (g2 := F0 m 92 ls [.int (nI 0), .ref (G.ad 0 0)]) rfl ?_
        refine fg_put (C := RX13) (T := TX13) (N := 24) (ci := 0) (g := 0) (i := 0) hx hb hown hts hX hC in_X13 tyX13 tyX13_ok nmX13 rfl (min_ (by decide)) rfl 9 (by decide) q1319 (fun _ h => h) rfl rfl rfl (Nat.le_of_ble_eq_true rfl) (mct G (mpg d kp as bf (md sc 0 (n_must (S1.so = 0) tp L S1) im1 sn1) fd tp it1 ws sz nu mv)) ms_md dX13_text_92 (fun H locs hC => ?_)
        refine lv_aload_n hx hb dX13_text_95 rfl (lv_at hl 0 rfl) ?_
        refine fg_get (C := RX13) (T := TX13) (N := 24) (ci := 0) (g := 0) (i := 0) (v := .int ((n_must (S1.so = 0) tp L S1).wr)) hx hb hown hts hX hC in_X13 rfl (min_ (by decide)) rfl 14 (by decide) q1324 (fun _ h => h) rfl dX13_text_96 ?_
        refine lv_if_eq (tgt := 109) hx hb dX13_text_99 (by decide) (fun z_10 => absurd z_10 hw0) (fun _ => ?_)
        refine lv_iconst (v := (-1)) hx hb dX13_text_102 rfl ?_
        refine lv_aload_n hx hb dX13_text_103 rfl (lv_at hl 0 rfl) ?_
        refine fg_get (C := RX13) (T := TX13) (N := 24) (ci := 0) (g := 0) (i := 0) (v := .int (nI ((n_must (S1.so = 0) tp L S1).bg))) hx hb hown hts hX hC in_X13 rfl (min_ (by decide)) rfl 10 (by decide) q1320 (fun _ h => h) rfl dX13_text_104 ?_
        refine lv_isub hx hb dX13_text_107 ?_
        exact fr_i hx hb hr hlocks hX hC () (congrArg (fun z => some (Value.int z)) (rfl)) (congrArg (fun z => mct G (mpg d kp as bf z fd tp it1 ws sz nu mv)) (rfl)) dX13_text_108
      · refine lv_aload_n hx hb dX13_text_40 rfl (lv_at hl 0 rfl) ?_
        refine fg_get (C := RX13) (T := TX13) (N := 24) (ci := 0) (g := 0) (i := 0) (v := .int S5.so) hx hb hown hts hX hC in_X13 rfl (min_ (by decide)) rfl 12 (by decide) q1322 (fun _ h => h) rfl dX13_text_41 ?_
        refine lv_iconst (v := 3) hx hb dX13_text_44 rfl ?_
        refine lv_icmp_ne (tgt := 74) hx hb dX13_text_45 (by decide) (fun c_11 => ?_) (fun c_11 => ?_)
        · rw [nloop_f (fun z => c_11 z.2.1)] at hq
          have e1 : S5 = S1 := congrArg (fun z => z.1) hq
          have e2 : sn5 = sn1 := congrArg (fun z => z.2.1) hq
          have e3 : it5 = it1 := congrArg (fun z => z.2.2.1) hq
          have e4 : im5 = im1 := congrArg (fun z => z.2.2.2) hq
          have hC : fC (mF G) (mct G (mpg d kp as bf (md sc L S1 im1 sn1) fd tp it1 ws sz nu mv)) s.heap H locs := by rw [← e1, ← e2, ← e3, ← e4]; exact hC
          have hS1 : SI L S1 := e1 ▸ hS5
          have him1 : im1 ≤ 120 := e4 ▸ hm5
          refine lv_aload_n hx hb dX13_text_74 rfl (lv_at hl 0 rfl) ?_
          refine lv_aload_n hx hb dX13_text_75 rfl (lv_at hl 0 rfl) ?_
          refine fg_get (C := RX13) (T := TX13) (N := 24) (ci := 0) (g := 0) (i := 0) (v := .int S1.so) hx hb hown hts hX hC in_X13 rfl (min_ (by decide)) rfl 12 (by decide) q1322 (fun _ h => h) rfl dX13_text_76 ?_
          refine fw_joinb (C := S1.so = 0) (pcj := 87) (ls := ls) (rest := [.ref (G.ad 0 0)]) (fun ja jb => ?_) ?_
          · refine lv_if_ne (tgt := 86) hx hb dX13_text_79 (by decide) (fun c_12 => ?_) (fun c_12 => ?_)
            · refine lv_iconst (v := 0) hx hb dX13_text_86 rfl ?_
              exact jb c_12
            · refine lv_iconst (v := 1) hx hb dX13_text_82 rfl ?_
              refine lv_goto (tgt := 87) hx hb dX13_text_83 (by decide) ?_
              exact ja c_12
          refine fc_V (As := [.int (b2i (S1.so = 0))]) (rest := []) hx hb hml hown hts hX hC (m_X13_must (sc := sc) (L := L) (S := S1) (im := im1) (sn := sn1) hL hS1 (S1.so = 0)) (lw_V q1769 q1771 qs98 q124 q1772) hdV_X13_must ⟨rfl, rfl⟩ ⟨Nat.le_of_ble_eq_true rfl, Nat.le_of_ble_eq_true rfl⟩ (fx_recv (g := 0) (i := 0) (ci := 0) (q := (RX13, TX13, 24)) hX hC (min_ (by decide)) rfl rfl) hl.1 rfl (Nat.le_of_ble_eq_true rfl) ⟨Nat.zero_le _, Nat.zero_le _⟩ dX13_text_87 (fun _ H locs hC => ?_)
          refine W.eq (g2 := F0 m 90 ls []) rfl ?_
          refine lv_aload_n hx hb dX13_text_90 rfl (lv_at hl 0 rfl) ?_
          refine lv_iconst (v := 0) hx hb dX13_text_91 rfl ?_
          refine W.eq (g2 := F0 m 92 ls [.int (nI 0), .ref (G.ad 0 0)]) rfl ?_
          refine fg_put (C := RX13) (T := TX13) (N := 24) (ci := 0) (g := 0) (i := 0) hx hb hown hts hX hC in_X13 tyX13 tyX13_ok nmX13 rfl (min_ (by decide)) rfl 9 (by decide) q1319 (fun _ h => h) rfl rfl rfl (Nat.le_of_ble_eq_true rfl) (mct G (mpg d kp as bf (md sc 0 (n_must (S1.so = 0) tp L S1) im1 sn1) fd tp it1 ws sz nu mv)) ms_md dX13_text_92 (fun H locs hC => ?_)
          refine lv_aload_n hx hb dX13_text_95 rfl (lv_at hl 0 rfl) ?_
          refine fg_get (C := RX13) (T := TX13) (N := 24) (ci := 0) (g := 0) (i := 0) (v := .int ((n_must (S1.so = 0) tp L S1).wr)) hx hb hown hts hX hC in_X13 rfl (min_ (by decide)) rfl 14 (by decide) q1324 (fun _ h => h) rfl dX13_text_96 ?_
          refine lv_if_eq (tgt := 109) hx hb dX13_text_99 (by decide) (fun z_14 => absurd z_14 hw0) (fun _ => ?_)
          refine lv_iconst (v := (-1)) hx hb dX13_text_102 rfl ?_
          refine lv_aload_n hx hb dX13_text_103 rfl (lv_at hl 0 rfl) ?_
          refine fg_get (C := RX13) (T := TX13) (N := 24) (ci := 0) (g := 0) (i := 0) (v := .int (nI ((n_must (S1.so = 0) tp L S1).bg))) hx hb hown hts hX hC in_X13 rfl (min_ (by decide)) rfl 10 (by decide) q1320 (fun _ h => h) rfl dX13_text_104 ?_
          refine lv_isub hx hb dX13_text_107 ?_
          exact fr_i hx hb hr hlocks hX hC () (congrArg (fun z => some (Value.int z)) (rfl)) (congrArg (fun z => mct G (mpg d kp as bf z fd tp it1 ws sz nu mv)) (rfl)) dX13_text_108
        · have hb4 : S5.bg < 120 := by rcases hS5.2.2 with q | q; exact absurd (q.symm.trans c_11) (by decide); have := hS5.2.1; omega
          refine lv_aload_n hx hb dX13_text_48 rfl (lv_at hl 0 rfl) ?_
          refine fg_get (C := RX13) (T := TX13) (N := 24) (ci := 0) (g := 0) (i := 0) (v := .ref (G.ad 0 6)) hx hb hown hts hX hC in_X13 rfl (min_ (by decide)) rfl 8 (by decide) q1318 (fun _ h => h) rfl dX13_text_49 ?_
          refine lv_aload_n hx hb dX13_text_52 rfl (lv_at hl 0 rfl) ?_
          refine fg_get (C := RX13) (T := TX13) (N := 24) (ci := 0) (g := 0) (i := 0) (v := .int (nI S5.bg)) hx hb hown hts hX hC in_X13 rfl (min_ (by decide)) rfl 10 (by decide) q1320 (fun _ h => h) rfl dX13_text_53 ?_
          refine fg_iald (g := 0) (i := 6) (t0 := 0) (v := (mt tp) S5.bg) hx hb hX hC (min_ (by decide)) rfl rfl (vp_in_nI (show S5.bg < 120 by omega) (by decide)) (congrArg (mt tp) (nI_clamp (by omega))) dX13_text_56 ?_
          refine lv_bipush (v := 59) hx hb dX13_text_57 rfl ?_
          refine lv_icmp_ne (tgt := 74) hx hb dX13_text_59 (by decide) (fun c_15 => ?_) (fun c_15 => ?_)
          · rw [nloop_f (fun z => c_15 z.2.2)] at hq
            have e1 : S5 = S1 := congrArg (fun z => z.1) hq
            have e2 : sn5 = sn1 := congrArg (fun z => z.2.1) hq
            have e3 : it5 = it1 := congrArg (fun z => z.2.2.1) hq
            have e4 : im5 = im1 := congrArg (fun z => z.2.2.2) hq
            have hC : fC (mF G) (mct G (mpg d kp as bf (md sc L S1 im1 sn1) fd tp it1 ws sz nu mv)) s.heap H locs := by rw [← e1, ← e2, ← e3, ← e4]; exact hC
            have hS1 : SI L S1 := e1 ▸ hS5
            have him1 : im1 ≤ 120 := e4 ▸ hm5
            refine lv_aload_n hx hb dX13_text_74 rfl (lv_at hl 0 rfl) ?_
            refine lv_aload_n hx hb dX13_text_75 rfl (lv_at hl 0 rfl) ?_
            refine fg_get (C := RX13) (T := TX13) (N := 24) (ci := 0) (g := 0) (i := 0) (v := .int S1.so) hx hb hown hts hX hC in_X13 rfl (min_ (by decide)) rfl 12 (by decide) q1322 (fun _ h => h) rfl dX13_text_76 ?_
            refine fw_joinb (C := S1.so = 0) (pcj := 87) (ls := ls) (rest := [.ref (G.ad 0 0)]) (fun ja jb => ?_) ?_
            · refine lv_if_ne (tgt := 86) hx hb dX13_text_79 (by decide) (fun c_16 => ?_) (fun c_16 => ?_)
              · refine lv_iconst (v := 0) hx hb dX13_text_86 rfl ?_
                exact jb c_16
              · refine lv_iconst (v := 1) hx hb dX13_text_82 rfl ?_
                refine lv_goto (tgt := 87) hx hb dX13_text_83 (by decide) ?_
                exact ja c_16
            refine fc_V (As := [.int (b2i (S1.so = 0))]) (rest := []) hx hb hml hown hts hX hC (m_X13_must (sc := sc) (L := L) (S := S1) (im := im1) (sn := sn1) hL hS1 (S1.so = 0)) (lw_V q1769 q1771 qs98 q124 q1772) hdV_X13_must ⟨rfl, rfl⟩ ⟨Nat.le_of_ble_eq_true rfl, Nat.le_of_ble_eq_true rfl⟩ (fx_recv (g := 0) (i := 0) (ci := 0) (q := (RX13, TX13, 24)) hX hC (min_ (by decide)) rfl rfl) hl.1 rfl (Nat.le_of_ble_eq_true rfl) ⟨Nat.zero_le _, Nat.zero_le _⟩ dX13_text_87 (fun _ H locs hC => ?_)
            refine W.eq (g2 := F0 m 90 ls []) rfl ?_
            refine lv_aload_n hx hb dX13_text_90 rfl (lv_at hl 0 rfl) ?_
            refine lv_iconst (v := 0) hx hb dX13_text_91 rfl ?_
            refine W.eq (g2 := F0 m 92 ls [.int (nI 0), .ref (G.ad 0 0)]) rfl ?_
            refine fg_put (C := RX13) (T := TX13) (N := 24) (ci := 0) (g := 0) (i := 0) hx hb hown hts hX hC in_X13 tyX13 tyX13_ok nmX13 rfl (min_ (by decide)) rfl 9 (by decide) q1319 (fun _ h => h) rfl rfl rfl (Nat.le_of_ble_eq_true rfl) (mct G (mpg d kp as bf (md sc 0 (n_must (S1.so = 0) tp L S1) im1 sn1) fd tp it1 ws sz nu mv)) ms_md dX13_text_92 (fun H locs hC => ?_)
            refine lv_aload_n hx hb dX13_text_95 rfl (lv_at hl 0 rfl) ?_
            refine fg_get (C := RX13) (T := TX13) (N := 24) (ci := 0) (g := 0) (i := 0) (v := .int ((n_must (S1.so = 0) tp L S1).wr)) hx hb hown hts hX hC in_X13 rfl (min_ (by decide)) rfl 14 (by decide) q1324 (fun _ h => h) rfl dX13_text_96 ?_
            refine lv_if_eq (tgt := 109) hx hb dX13_text_99 (by decide) (fun z_18 => absurd z_18 hw0) (fun _ => ?_)
            refine lv_iconst (v := (-1)) hx hb dX13_text_102 rfl ?_
            refine lv_aload_n hx hb dX13_text_103 rfl (lv_at hl 0 rfl) ?_
            refine fg_get (C := RX13) (T := TX13) (N := 24) (ci := 0) (g := 0) (i := 0) (v := .int (nI ((n_must (S1.so = 0) tp L S1).bg))) hx hb hown hts hX hC in_X13 rfl (min_ (by decide)) rfl 10 (by decide) q1320 (fun _ h => h) rfl dX13_text_104 ?_
            refine lv_isub hx hb dX13_text_107 ?_
            exact fr_i hx hb hr hlocks hX hC () (congrArg (fun z => some (Value.int z)) (rfl)) (congrArg (fun z => mct G (mpg d kp as bf z fd tp it1 ws sz nu mv)) (rfl)) dX13_text_108
          · have c5a := c_7
            have hb5 : S5.bg < 120 := by rcases hS5.2.2 with q | q; exact absurd (q.symm.trans c_11) (by decide); have := hS5.2.1; omega
            have him5 : im5 < 120 := by have := hi5 c5a; omega
            rw [nloop_t ⟨c_7, c_11, c_15⟩] at hq
            refine lv_aload_n hx hb dX13_text_62 rfl (lv_at hl 0 rfl) ?_
            refine lv_iconst (v := 1) hx hb dX13_text_63 rfl ?_
            refine fc_V (As := [.int 1]) (rest := []) hx hb hml hown hts hX hC (m_X13_must (sc := sc) (L := L) (S := S5) (im := im5) (sn := sn5) hL hS5 True) (lw_V q1769 q1771 qs98 q124 q1772) hdV_X13_must ⟨rfl, rfl⟩ ⟨Nat.le_of_ble_eq_true rfl, Nat.le_of_ble_eq_true rfl⟩ (fx_recv (g := 0) (i := 0) (ci := 0) (q := (RX13, TX13, 24)) hX hC (min_ (by decide)) rfl rfl) hl.1 rfl (Nat.le_of_ble_eq_true rfl) ⟨Nat.zero_le _, Nat.zero_le _⟩ dX13_text_64 (fun _ H locs hC => ?_)
            refine W.eq (g2 := F0 m 67 ls []) rfl ?_
            refine lv_aload_n hx hb dX13_text_67 rfl (lv_at hl 0 rfl) ?_
            refine fc_V (As := []) (rest := []) hx hb hml hown hts hX hC (m_X13_readItem (sc := sc) (L := L) (S := (n_must True tp L S5)) (im := im5) (sn := sn5) hL (nmust_I hL hS5) him5) (lw_V q1748 q1750 qs95 q124 q1751) hdV_X13_readItem ⟨rfl, rfl⟩ ⟨Nat.le_of_ble_eq_true rfl, Nat.le_of_ble_eq_true rfl⟩ (fx_recv (g := 0) (i := 0) (ci := 0) (q := (RX13, TX13, 24)) hX hC (min_ (by decide)) rfl rfl) hl.1 rfl (Nat.le_of_ble_eq_true rfl) ⟨Nat.zero_le _, Nat.zero_le _⟩ dX13_text_68 (fun _ H locs hC => ?_)
            refine W.eq (g2 := F0 m 71 ls []) rfl ?_
            refine lv_goto (tgt := 33) hx hb dX13_text_71 (by decide) ?_
            exact ih5 _ _ _ _ (nitem_I hL (nmust_I hL hS5)) (fun z => by have := nround hL hS5 c5a z; have := (nitem_I (tp := tp) (sn := sn5) hL (nmust_I (P := True) (tp := tp) hL hS5)).1; have := hk5 c5a; omega) (fun z => by have := nround hL hS5 c5a z; have := hi5 c5a; have := hS5.1; omega) (by omega) hq _ _ hC ls (lv_sub hl [0] rfl)
  exact L5 121 _ _ _ _ (nitem_I hL (nstart_I hL)) (fun _ => Nat.le_add_left _ _) (fun z => nfirst hL z) (by decide) hq _ _ hC ls (lv_sub hl [0] rfl)
