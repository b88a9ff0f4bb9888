theorem hdV_J6_coder : yJ6_coder.cls = RJ6 ∧ yJ6_coder.cls ≠ "java/lang/invoke/MethodHandle" ∧ yJ6_coder.cls ≠ "java/lang/invoke/VarHandle" ∧ (parseMethodDescriptor yJ6_coder.desc).map (fun d => d.parameters.length) = some 0 := by decide +kernel
theorem hdS_J8_checkIndex : yJ8_checkIndex.cls ≠ "java/lang/invoke/MethodHandle" ∧ yJ8_checkIndex.cls ≠ "java/lang/invoke/VarHandle" ∧ (parseMethodDescriptor yJ8_checkIndex.desc).map (fun d => d.parameters.length) = some 3 := by decide +kernel
theorem hdS_J6_checkIndex : yJ6_checkIndex.cls ≠ "java/lang/invoke/MethodHandle" ∧ yJ6_checkIndex.cls ≠ "java/lang/invoke/VarHandle" ∧ (parseMethodDescriptor yJ6_checkIndex.desc).map (fun d => d.parameters.length) = some 2 := by decide +kernel
theorem hdV_J6_isLatin1 : yJ6_isLatin1.cls = RJ6 ∧ yJ6_isLatin1.cls ≠ "java/lang/invoke/MethodHandle" ∧ yJ6_isLatin1.cls ≠ "java/lang/invoke/VarHandle" ∧ (parseMethodDescriptor yJ6_isLatin1.desc).map (fun d => d.parameters.length) = some 0 := by decide +kernel
theorem hdS_J7_charAt : yJ7_charAt.cls ≠ "java/lang/invoke/MethodHandle" ∧ yJ7_charAt.cls ≠ "java/lang/invoke/VarHandle" ∧ (parseMethodDescriptor yJ7_charAt.desc).map (fun d => d.parameters.length) = some 2 := by decide +kernel
set_option maxRecDepth 100000 in
theorem m_J6_isLatin1 {l : Launch} {F : Fam} {ct : Ct} (i0 : Nat) (hi : i0 < 19) : Cm l yJ6_isLatin1 (ws_ yJ6_isLatin1 cJ6_isLatin1 1 (some .boolean)) ({ frames := 0, cells := 0, slots := 0, locals := 0 }) F [.ref (F.adK i0)] (ct) (fun _ : Unit => some (.int 1)) (fun _ => ct) := by
  refine Cm.start (by decide) (Nat.le_of_ble_eq_true rfl) ?_
  intro p e s m below meth c hf hX hC ls hl
  obtain ⟨hx, hb, hr, hml, hown, hts, hlocks⟩ := hf
  have hl : lv_has ls 1 [(0, .ref (F.adK i0))] := hl
  have hown : s.vm.findClass "java/lang/String" = some m.cls := hown
  refine va_gets hx hb hX.2.2.2.2.1 hC.2 hown (hts _ q1100) (fun _ h => h) dJ6_isLatin1_0 ?_
  refine lv_if_eq (tgt := 17) hx hb dJ6_isLatin1_3 (by decide) (fun z_1 => absurd z_1 (by decide)) (fun _ => ?_)
  refine lv_aload_n hx hb dJ6_isLatin1_6 rfl (lv_at hl 0 rfl) ?_
  refine vk_getf hx hb (hX.2.2.2.1.1 i0 hi).2.1 hC.2 hown (hts _ q1894) (fun _ h => h) dJ6_isLatin1_7 ?_
  refine lv_if_ne (tgt := 17) hx hb dJ6_isLatin1_10 (by decide) (fun z_2 => absurd (by decide) z_2) (fun _ => ?_)
  refine lv_iconst (v := 1) hx hb dJ6_isLatin1_13 rfl ?_
  refine lv_goto (tgt := 18) hx hb dJ6_isLatin1_14 (by decide) ?_
  exact fr_z hx hb hr rfl hlocks hX hC () rfl rfl dJ6_isLatin1_18
set_option maxRecDepth 100000 in
theorem m_J6_coder {l : Launch} {F : Fam} {ct : Ct} (i0 : Nat) (hi : i0 < 19) : Cm l yJ6_coder (ws_ yJ6_coder cJ6_coder 1 (some .byte)) ({ frames := 0, cells := 0, slots := 0, locals := 0 }) F [.ref (F.adK i0)] (ct) (fun _ : Unit => some (.int 0)) (fun _ => ct) := by
  refine Cm.start (by decide) (Nat.le_of_ble_eq_true rfl) ?_
  intro p e s m below meth c hf hX hC ls hl
  obtain ⟨hx, hb, hr, hml, hown, hts, hlocks⟩ := hf
  have hl : lv_has ls 1 [(0, .ref (F.adK i0))] := hl
  have hown : s.vm.findClass "java/lang/String" = some m.cls := hown
  refine va_gets hx hb hX.2.2.2.2.1 hC.2 hown (hts _ q1100) (fun _ h => h) dJ6_coder_0 ?_
  refine lv_if_eq (tgt := 13) hx hb dJ6_coder_3 (by decide) (fun z_1 => absurd z_1 (by decide)) (fun _ => ?_)
  refine lv_aload_n hx hb dJ6_coder_6 rfl (lv_at hl 0 rfl) ?_
  refine vk_getf hx hb (hX.2.2.2.1.1 i0 hi).2.1 hC.2 hown (hts _ q1894) (fun _ h => h) dJ6_coder_7 ?_
  refine lv_goto (tgt := 14) hx hb dJ6_coder_10 (by decide) ?_
  exact fr_z hx hb hr rfl hlocks hX hC () rfl rfl dJ6_coder_14
set_option maxRecDepth 100000 in
theorem m_J6_length {l : Launch} {F : Fam} {ct : Ct} (i0 : Nat) (hi : i0 < 19) : Cm l yJ6_length (ws_ yJ6_length cJ6_length 1 (some .int)) ({ frames := 1, cells := 0, slots := 0, locals := 20 }) F [.ref (F.adK i0)] (ct) (fun _ : Unit => some (.int (nI ((slen.getD i0 0))))) (fun _ => ct) := by
  refine Cm.start (by decide) (Nat.le_of_ble_eq_true rfl) ?_
  intro p e s m below meth c hf hX hC ls hl
  obtain ⟨hx, hb, hr, hml, hown, hts, hlocks⟩ := hf
  have hl : lv_has ls 1 [(0, .ref (F.adK i0))] := hl
  have hown : s.vm.findClass "java/lang/String" = some m.cls := hown
  refine lv_aload_n hx hb dJ6_length_0 rfl (lv_at hl 0 rfl) ?_
  refine vk_getf hx hb (hX.2.2.2.1.1 i0 hi).2.2.1 hC.2 hown (hts _ q1895) (fun _ h => h) dJ6_length_1 ?_
  refine va_tlen hx hb (hX.2.2.2.1.1 i0 hi).2.2.2 hC.2 (v := nI ((slen.getD i0 0))) rfl dJ6_length_4 ?_
  refine lv_aload_n hx hb dJ6_length_5 rfl (lv_at hl 0 rfl) ?_
  refine fc_V (As := []) (rest := [.int (nI ((slen.getD i0 0)))]) hx hb hml hown hts hX hC (m_J6_coder i0 hi) (lw_V q1764 q1765 q1766 q129 q1767) hdV_J6_coder ⟨rfl, rfl⟩ ⟨Nat.le_of_ble_eq_true rfl, Nat.le_of_ble_eq_true rfl⟩ (vk_recv hX.2.2.2.1 hi hC.2) hl.1 rfl (Nat.le_of_ble_eq_true rfl) ⟨Nat.zero_le _, Nat.zero_le _⟩ dJ6_length_6 (fun _ H locs hC => ?_)
  refine W.eq (g2 := F0 m 9 ls [.int 0, .int (nI ((slen.getD i0 0)))]) rfl ?_
  refine lv_ishr hx hb dJ6_length_9 ?_
  exact fr_i hx hb hr hlocks hX hC () (congrArg (fun z => some (Value.int z)) ((show ∀ i, i < 19 → nI (slen.getD i 0) = (nI ((slen.getD i 0))) >>> (0 &&& 31) from by decide +kernel) i0 hi)) rfl dJ6_length_10
set_option maxRecDepth 100000 in
theorem m_J8_checkIndex_n {l : Launch} {F : Fam} {ct : Ct} (k n : Nat) (hk : k < n) (hn : n < 1000) : Cm l yJ8_checkIndex (ws_ yJ8_checkIndex cJ8_checkIndex 3 (some .int)) ({ frames := 0, cells := 0, slots := 0, locals := 0 }) F [.int (nI k), .int (nI n), .null] (ct) (fun _ : Unit => some (.int (nI k))) (fun _ => ct) := by
  refine Cm.start (by decide) (Nat.le_of_ble_eq_true rfl) ?_
  intro p e s m below meth c hf hX hC ls hl
  obtain ⟨hx, hb, hr, hml, hown, hts, hlocks⟩ := hf
  have hl : lv_has ls 3 [(0, .int (nI k)), (1, .int (nI n)), (2, .null)] := hl
  have hown : s.vm.findClass "jdk/internal/util/Preconditions" = some m.cls := hown
  refine lv_iload_n hx hb dJ8_checkIndex_0 rfl (lv_at hl 0 rfl) ?_
  refine lv_if_lt (tgt := 9) hx hb dJ8_checkIndex_1 (by decide) (fun z_1 => absurd z_1 (nI_nlt (a := k) (b := 0) (Nat.zero_le _) (by omega))) (fun _ => ?_)
  refine lv_iload_n hx hb dJ8_checkIndex_4 rfl (lv_at hl 0 rfl) ?_
  refine lv_iload_n hx hb dJ8_checkIndex_5 rfl (lv_at hl 1 rfl) ?_
  refine lv_icmp_lt (tgt := 16) hx hb dJ8_checkIndex_6 (by decide) (fun _ => ?_) (fun z_2 => absurd (nI_lt (a := k) (b := n) hk (by omega)) z_2)
  refine lv_iload_n hx hb dJ8_checkIndex_16 rfl (lv_at hl 0 rfl) ?_
  exact fr_i hx hb hr hlocks hX hC () rfl rfl dJ8_checkIndex_17
set_option maxRecDepth 100000 in
theorem m_J8_checkIndex_r {l : Launch} {F : Fam} {ct : Ct} (k n : Nat) (hk : k < n) (hn : n < 1000) (t0 : Nat) : Cm l yJ8_checkIndex (ws_ yJ8_checkIndex cJ8_checkIndex 3 (some .int)) ({ frames := 0, cells := 0, slots := 0, locals := 0 }) F [.int (nI k), .int (nI n), .ref (t0)] (ct) (fun _ : Unit => some (.int (nI k))) (fun _ => ct) := by
  refine Cm.start (by decide) (Nat.le_of_ble_eq_true rfl) ?_
  intro p e s m below meth c hf hX hC ls hl
  obtain ⟨hx, hb, hr, hml, hown, hts, hlocks⟩ := hf
  have hl : lv_has ls 3 [(0, .int (nI k)), (1, .int (nI n)), (2, .ref (t0))] := hl
  have hown : s.vm.findClass "jdk/internal/util/Preconditions" = some m.cls := hown
  refine lv_iload_n hx hb dJ8_checkIndex_0 rfl (lv_at hl 0 rfl) ?_
  refine lv_if_lt (tgt := 9) hx hb dJ8_checkIndex_1 (by decide) (fun z_1 => absurd z_1 (nI_nlt (a := k) (b := 0) (Nat.zero_le _) (by omega))) (fun _ => ?_)
  refine lv_iload_n hx hb dJ8_checkIndex_4 rfl (lv_at hl 0 rfl) ?_
  refine lv_iload_n hx hb dJ8_checkIndex_5 rfl (lv_at hl 1 rfl) ?_
  refine lv_icmp_lt (tgt := 16) hx hb dJ8_checkIndex_6 (by decide) (fun _ => ?_) (fun z_2 => absurd (nI_lt (a := k) (b := n) hk (by omega)) z_2)
  refine lv_iload_n hx hb dJ8_checkIndex_16 rfl (lv_at hl 0 rfl) ?_
  exact fr_i hx hb hr hlocks hX hC () rfl rfl dJ8_checkIndex_17
set_option maxRecDepth 100000 in
theorem m_J6_checkIndex {l : Launch} {F : Fam} {ct : Ct} (k n : Nat) (hk : k < n) (hn : n < 1000) : Cm l yJ6_checkIndex (ws_ yJ6_checkIndex cJ6_checkIndex 2 none) ({ frames := 1, cells := 0, slots := 0, locals := 22 }) F [.int (nI k), .int (nI n)] (ct) (fun _ : Unit => none) (fun _ => ct) := by
  refine Cm.start (by decide) (Nat.le_of_ble_eq_true rfl) ?_
  intro p e s m below meth c hf hX hC ls hl
  obtain ⟨hx, hb, hr, hml, hown, hts, hlocks⟩ := hf
  have hl : lv_has ls 2 [(0, .int (nI k)), (1, .int (nI n))] := hl
  have hown : s.vm.findClass "java/lang/String" = some m.cls := hown
  refine lv_iload_n hx hb dJ6_checkIndex_0 rfl (lv_at hl 0 rfl) ?_
  refine lv_iload_n hx hb dJ6_checkIndex_1 rfl (lv_at hl 1 rfl) ?_
  rcases hX.2.2.2.2.2 with hZ | ⟨t0, hZ⟩
  · refine va_gets hx hb hZ hC.2 hown (hts _ q1108) (fun _ h => h) dJ6_checkIndex_2 ?_
    refine fc_S (As := [.int (nI k), .int (nI n), .null]) (rest := []) hx hb hml hown hts hX hC (m_J8_checkIndex_n k n hk hn) (lw_S q1110 q1111 q131 q1112) hdS_J8_checkIndex ⟨rfl, rfl⟩ ⟨Nat.le_of_ble_eq_true rfl, Nat.le_of_ble_eq_true rfl⟩ hl.1 rfl (Nat.le_of_ble_eq_true rfl) ⟨Nat.zero_le _, Nat.zero_le _⟩ dJ6_checkIndex_5 (fun _ H locs hC => ?_)
    refine W.eq (g2 := F0 m 8 ls [.int (nI k)]) rfl ?_
    refine lv_pop hx hb dJ6_checkIndex_8 rfl ?_
    exact fr_v hx hb hr hlocks hX hC () rfl rfl dJ6_checkIndex_9
  · refine va_gets hx hb hZ hC.2 hown (hts _ q1108) (fun _ h => h) dJ6_checkIndex_2 ?_
    refine fc_S (As := [.int (nI k), .int (nI n), .ref (t0)]) (rest := []) hx hb hml hown hts hX hC (m_J8_checkIndex_r k n hk hn t0) (lw_S q1110 q1111 q131 q1112) hdS_J8_checkIndex ⟨rfl, rfl⟩ ⟨Nat.le_of_ble_eq_true rfl, Nat.le_of_ble_eq_true rfl⟩ hl.1 rfl (Nat.le_of_ble_eq_true rfl) ⟨Nat.zero_le _, Nat.zero_le _⟩ dJ6_checkIndex_5 (fun _ H locs hC => ?_)
    refine W.eq (g2 := F0 m 8 ls [.int (nI k)]) rfl ?_
    refine lv_pop hx hb dJ6_checkIndex_8 rfl ?_
    exact fr_v hx hb hr hlocks hX hC () rfl rfl dJ6_checkIndex_9
set_option maxRecDepth 100000 in
theorem m_J7_charAt {l : Launch} {F : Fam} {ct : Ct} (i0 : Nat) (hi : i0 < 19) (k : Nat) (hk : k < slen.getD i0 0) : Cm l yJ7_charAt (ws_ yJ7_charAt cJ7_charAt 2 (some .char)) ({ frames := 2, cells := 0, slots := 0, locals := 43 }) F [.ref (F.adV i0), .int (nI k)] (ct) (fun _ : Unit => some (.int (p_chr i0 k))) (fun _ => ct) := by
  refine Cm.start (by decide) (Nat.le_of_ble_eq_true rfl) ?_
  intro p e s m below meth c hf hX hC ls hl
  obtain ⟨hx, hb, hr, hml, hown, hts, hlocks⟩ := hf
  have hl : lv_has ls 2 [(0, .ref (F.adV i0)), (1, .int (nI k))] := hl
  have hown : s.vm.findClass "java/lang/StringLatin1" = some m.cls := hown
  have h9 := slen_le i0 hi
  refine lv_iload_n hx hb dJ7_charAt_0 rfl (lv_at hl 1 rfl) ?_
  refine lv_aload_n hx hb dJ7_charAt_1 rfl (lv_at hl 0 rfl) ?_
  refine va_tlen hx hb (hX.2.2.2.1.1 i0 hi).2.2.2 hC.2 (v := nI ((slen.getD i0 0))) rfl dJ7_charAt_2 ?_
  refine fc_S (As := [.int (nI k), .int (nI ((slen.getD i0 0)))]) (rest := []) hx hb hml hown hts hX hC (m_J6_checkIndex k (slen.getD i0 0) hk (by omega)) (lw_S q1105 q1106 q129 q1107) hdS_J6_checkIndex ⟨rfl, rfl⟩ ⟨Nat.le_of_ble_eq_true rfl, Nat.le_of_ble_eq_true rfl⟩ hl.1 rfl (Nat.le_of_ble_eq_true rfl) ⟨Nat.zero_le _, Nat.zero_le _⟩ dJ7_charAt_3 (fun _ H locs hC => ?_)
  refine W.eq (g2 := F0 m 6 ls []) rfl ?_
  refine lv_aload_n hx hb dJ7_charAt_6 rfl (lv_at hl 0 rfl) ?_
  refine lv_iload_n hx hb dJ7_charAt_7 rfl (lv_at hl 1 rfl) ?_
  refine va_tb hx hb (hX.2.2.2.1.1 i0 hi).2.2.2 hC.2 (vp_in_nI hk (by omega)) (v := .int (p_chr i0 k)) (congrArg (fun z => Value.int (p_chr i0 z)) (nI_clamp (by omega))) dJ7_charAt_8 ?_
  refine lv_sipush (v := 255) hx hb dJ7_charAt_9 rfl ?_
  refine lv_iand hx hb dJ7_charAt_12 ?_
  refine lv_i2c (v := (((p_chr i0 k) &&& 255).toUInt32 % 65536).toInt32) hx hb dJ7_charAt_13 rfl ?_
  rw [chr_i2c i0 hi k hk]
  exact fr_z hx hb hr (chr_nar i0 hi k hk) hlocks hX hC () rfl rfl dJ7_charAt_14
set_option maxRecDepth 100000 in
theorem m_J6_charAt {l : Launch} {F : Fam} {ct : Ct} (i0 : Nat) (hi : i0 < 19) (k : Nat) (hk : k < slen.getD i0 0) : Cm l yJ6_charAt (ws_ yJ6_charAt cJ6_charAt 2 (some .char)) ({ frames := 3, cells := 0, slots := 0, locals := 64 }) F [.ref (F.adK i0), .int (nI k)] (ct) (fun _ : Unit => some (.int (p_chr i0 k))) (fun _ => ct) := by
  refine Cm.start (by decide) (Nat.le_of_ble_eq_true rfl) ?_
  intro p e s m below meth c hf hX hC ls hl
  obtain ⟨hx, hb, hr, hml, hown, hts, hlocks⟩ := hf
  have hl : lv_has ls 2 [(0, .ref (F.adK i0)), (1, .int (nI k))] := hl
  have hown : s.vm.findClass "java/lang/String" = some m.cls := hown
  refine lv_aload_n hx hb dJ6_charAt_0 rfl (lv_at hl 0 rfl) ?_
  refine fc_V (As := []) (rest := []) hx hb hml hown hts hX hC (m_J6_isLatin1 i0 hi) (lw_V q1096 q1097 q1098 q129 q1099) hdV_J6_isLatin1 ⟨rfl, rfl⟩ ⟨Nat.le_of_ble_eq_true rfl, Nat.le_of_ble_eq_true rfl⟩ (vk_recv hX.2.2.2.1 hi hC.2) hl.1 rfl (Nat.le_of_ble_eq_true rfl) ⟨Nat.zero_le _, Nat.zero_le _⟩ dJ6_charAt_1 (fun _ H locs hC => ?_)
  refine W.eq (g2 := F0 m 4 ls [.int 1]) rfl ?_
  refine lv_if_eq (tgt := 16) hx hb dJ6_charAt_4 (by decide) (fun z_2 => absurd z_2 (by decide)) (fun _ => ?_)
  refine lv_aload_n hx hb dJ6_charAt_7 rfl (lv_at hl 0 rfl) ?_
  refine vk_getf hx hb (hX.2.2.2.1.1 i0 hi).2.2.1 hC.2 hown (hts _ q1895) (fun _ h => h) dJ6_charAt_8 ?_
  refine lv_iload_n hx hb dJ6_charAt_11 rfl (lv_at hl 1 rfl) ?_
  refine fc_S (As := [.ref (F.adV i0), .int (nI k)]) (rest := []) hx hb hml hown hts hX hC (m_J7_charAt i0 hi k hk) (lw_S q1102 q1103 q130 q1104) hdS_J7_charAt ⟨rfl, rfl⟩ ⟨Nat.le_of_ble_eq_true rfl, Nat.le_of_ble_eq_true rfl⟩ hl.1 rfl (Nat.le_of_ble_eq_true rfl) ⟨Nat.zero_le _, Nat.zero_le _⟩ dJ6_charAt_12 (fun _ H locs hC => ?_)
  refine W.eq (g2 := F0 m 15 ls [.int (p_chr i0 k)]) rfl ?_
  exact fr_z hx hb hr (chr_nar i0 hi k hk) hlocks hX hC () rfl rfl dJ6_charAt_15
