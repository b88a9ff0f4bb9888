theorem hdS_J4_numberOfTrailingZeros : yJ4_numberOfTrailingZeros.cls ≠ "java/lang/invoke/MethodHandle" ∧ yJ4_numberOfTrailingZeros.cls ≠ "java/lang/invoke/VarHandle" ∧ (parseMethodDescriptor yJ4_numberOfTrailingZeros.desc).map (fun d => d.parameters.length) = some 1 := by decide +kernel
theorem hdS_J4_bitCount : yJ4_bitCount.cls ≠ "java/lang/invoke/MethodHandle" ∧ yJ4_bitCount.cls ≠ "java/lang/invoke/VarHandle" ∧ (parseMethodDescriptor yJ4_bitCount.desc).map (fun d => d.parameters.length) = some 1 := by decide +kernel
theorem hdS_J5_numberOfTrailingZeros : yJ5_numberOfTrailingZeros.cls ≠ "java/lang/invoke/MethodHandle" ∧ yJ5_numberOfTrailingZeros.cls ≠ "java/lang/invoke/VarHandle" ∧ (parseMethodDescriptor yJ5_numberOfTrailingZeros.desc).map (fun d => d.parameters.length) = some 1 := by decide +kernel
theorem hdV_X0_leastOf : yX0_leastOf.cls = RX0 ∧ yX0_leastOf.cls ≠ "java/lang/invoke/MethodHandle" ∧ yX0_leastOf.cls ≠ "java/lang/invoke/VarHandle" ∧ (parseMethodDescriptor yX0_leastOf.desc).map (fun d => d.parameters.length) = some 1 := by decide +kernel
theorem hdV_X4_draw : yX4_draw.cls = RX4 ∧ yX4_draw.cls ≠ "java/lang/invoke/MethodHandle" ∧ yX4_draw.cls ≠ "java/lang/invoke/VarHandle" ∧ (parseMethodDescriptor yX4_draw.desc).map (fun d => d.parameters.length) = some 0 := by decide +kernel
theorem hdV_X0_rustles : yX0_rustles.cls = RX0 ∧ yX0_rustles.cls ≠ "java/lang/invoke/MethodHandle" ∧ yX0_rustles.cls ≠ "java/lang/invoke/VarHandle" ∧ (parseMethodDescriptor yX0_rustles.desc).map (fun d => d.parameters.length) = some 1 := by decide +kernel
theorem hdV_X4_noisy : yX4_noisy.cls = RX4 ∧ yX4_noisy.cls ≠ "java/lang/invoke/MethodHandle" ∧ yX4_noisy.cls ≠ "java/lang/invoke/VarHandle" ∧ (parseMethodDescriptor yX4_noisy.desc).map (fun d => d.parameters.length) = some 0 := by decide +kernel
theorem hdS_X0_divisor : yX0_divisor.cls ≠ "java/lang/invoke/MethodHandle" ∧ yX0_divisor.cls ≠ "java/lang/invoke/VarHandle" ∧ (parseMethodDescriptor yX0_divisor.desc).map (fun d => d.parameters.length) = some 2 := by decide +kernel
set_option maxRecDepth 100000 in
theorem m_J4_bitCount {l : Launch} {F : Fam} {ct : Ct} (q : Nat) (hq : q < 256) : Cm l yJ4_bitCount (ws_ yJ4_bitCount cJ4_bitCount 1 (some .int)) ({ frames := 0, cells := 0, slots := 0, locals := 0 }) F [.int (nI q)] (ct) (fun _ : Unit => some (.int (nI (p_pop q)))) (fun _ => ct) := by
  refine Cm.start (by decide) (Nat.le_of_ble_eq_true rfl) ?_
  intro p e s m below meth c hf hX hC ls hl
  obtain ⟨hx, hb, hr, hml, hown, hts, hlocks⟩ := hf
  have hl : lv_has ls 1 [(0, .int (nI q))] := hl
  have hown : s.vm.findClass "java/lang/Integer" = some m.cls := hown
  refine lv_iload_n hx hb dJ4_bitCount_0 rfl (lv_at hl 0 rfl) ?_
  refine lv_iload_n hx hb dJ4_bitCount_1 rfl (lv_at hl 0 rfl) ?_
  refine lv_iconst (v := 1) hx hb dJ4_bitCount_2 rfl ?_
  refine fw_iushr hx hb dJ4_bitCount_3 ?_
  refine lv_ldcw (v := 1431655765) hx hb hown (hts _ q1280) dJ4_bitCount_4 ?_
  refine lv_iand hx hb dJ4_bitCount_7 ?_
  refine lv_isub hx hb dJ4_bitCount_8 ?_
  refine lv_istore_n (lv' := [(0, .int ((nI q) - ((ush (nI q) 1) &&& 1431655765)))]) hx hb dJ4_bitCount_9 rfl hl (by decide) rfl (fun ls hl => ?_)
  refine lv_iload_n hx hb dJ4_bitCount_10 rfl (lv_at hl 0 rfl) ?_
  refine lv_ldcw (v := 858993459) hx hb hown (hts _ q1281) dJ4_bitCount_11 ?_
  refine lv_iand hx hb dJ4_bitCount_14 ?_
  refine lv_iload_n hx hb dJ4_bitCount_15 rfl (lv_at hl 0 rfl) ?_
  refine lv_iconst (v := 2) hx hb dJ4_bitCount_16 rfl ?_
  refine fw_iushr hx hb dJ4_bitCount_17 ?_
  refine lv_ldcw (v := 858993459) hx hb hown (hts _ q1281) dJ4_bitCount_18 ?_
  refine lv_iand hx hb dJ4_bitCount_21 ?_
  refine lv_iadd hx hb dJ4_bitCount_22 ?_
  refine lv_istore_n (lv' := [(0, .int ((((nI q) - ((ush (nI q) 1) &&& 1431655765)) &&& 858993459) + ((ush ((nI q) - ((ush (nI q) 1) &&& 1431655765)) 2) &&& 858993459)))]) hx hb dJ4_bitCount_23 rfl hl (by decide) rfl (fun ls hl => ?_)
  refine lv_iload_n hx hb dJ4_bitCount_24 rfl (lv_at hl 0 rfl) ?_
  refine lv_iload_n hx hb dJ4_bitCount_25 rfl (lv_at hl 0 rfl) ?_
  refine lv_iconst (v := 4) hx hb dJ4_bitCount_26 rfl ?_
  refine fw_iushr hx hb dJ4_bitCount_27 ?_
  refine lv_iadd hx hb dJ4_bitCount_28 ?_
  refine lv_ldcw (v := 252645135) hx hb hown (hts _ q1282) dJ4_bitCount_29 ?_
  refine lv_iand hx hb dJ4_bitCount_32 ?_
  refine lv_istore_n (lv' := [(0, .int ((((((nI q) - ((ush (nI q) 1) &&& 1431655765)) &&& 858993459) + ((ush ((nI q) - ((ush (nI q) 1) &&& 1431655765)) 2) &&& 858993459)) + (ush ((((nI q) - ((ush (nI q) 1) &&& 1431655765)) &&& 858993459) + ((ush ((nI q) - ((ush (nI q) 1) &&& 1431655765)) 2) &&& 858993459)) 4)) &&& 252645135))]) hx hb dJ4_bitCount_33 rfl hl (by decide) rfl (fun ls hl => ?_)
  refine lv_iload_n hx hb dJ4_bitCount_34 rfl (lv_at hl 0 rfl) ?_
  refine lv_iload_n hx hb dJ4_bitCount_35 rfl (lv_at hl 0 rfl) ?_
  refine lv_bipush (v := 8) hx hb dJ4_bitCount_36 rfl ?_
  refine fw_iushr hx hb dJ4_bitCount_38 ?_
  refine lv_iadd hx hb dJ4_bitCount_39 ?_
  refine lv_istore_n (lv' := [(0, .int (((((((nI q) - ((ush (nI q) 1) &&& 1431655765)) &&& 858993459) + ((ush ((nI q) - ((ush (nI q) 1) &&& 1431655765)) 2) &&& 858993459)) + (ush ((((nI q) - ((ush (nI q) 1) &&& 1431655765)) &&& 858993459) + ((ush ((nI q) - ((ush (nI q) 1) &&& 1431655765)) 2) &&& 858993459)) 4)) &&& 252645135) + (ush ((((((nI q) - ((ush (nI q) 1) &&& 1431655765)) &&& 858993459) + ((ush ((nI q) - ((ush (nI q) 1) &&& 1431655765)) 2) &&& 858993459)) + (ush ((((nI q) - ((ush (nI q) 1) &&& 1431655765)) &&& 858993459) + ((ush ((nI q) - ((ush (nI q) 1) &&& 1431655765)) 2) &&& 858993459)) 4)) &&& 252645135) 8)))]) hx hb dJ4_bitCount_40 rfl hl (by decide) rfl (fun ls hl => ?_)
  refine lv_iload_n hx hb dJ4_bitCount_41 rfl (lv_at hl 0 rfl) ?_
  refine lv_iload_n hx hb dJ4_bitCount_42 rfl (lv_at hl 0 rfl) ?_
  refine lv_bipush (v := 16) hx hb dJ4_bitCount_43 rfl ?_
  refine fw_iushr hx hb dJ4_bitCount_45 ?_
  refine lv_iadd hx hb dJ4_bitCount_46 ?_
  refine lv_istore_n (lv' := [(0, .int ((((((((nI q) - ((ush (nI q) 1) &&& 1431655765)) &&& 858993459) + ((ush ((nI q) - ((ush (nI q) 1) &&& 1431655765)) 2) &&& 858993459)) + (ush ((((nI q) - ((ush (nI q) 1) &&& 1431655765)) &&& 858993459) + ((ush ((nI q) - ((ush (nI q) 1) &&& 1431655765)) 2) &&& 858993459)) 4)) &&& 252645135) + (ush ((((((nI q) - ((ush (nI q) 1) &&& 1431655765)) &&& 858993459) + ((ush ((nI q) - ((ush (nI q) 1) &&& 1431655765)) 2) &&& 858993459)) + (ush ((((nI q) - ((ush (nI q) 1) &&& 1431655765)) &&& 858993459) + ((ush ((nI q) - ((ush (nI q) 1) &&& 1431655765)) 2) &&& 858993459)) 4)) &&& 252645135) 8)) + (ush (((((((nI q) - ((ush (nI q) 1) &&& 1431655765)) &&& 858993459) + ((ush ((nI q) - ((ush (nI q) 1) &&& 1431655765)) 2) &&& 858993459)) + (ush ((((nI q) - ((ush (nI q) 1) &&& 1431655765)) &&& 858993459) + ((ush ((nI q) - ((ush (nI q) 1) &&& 1431655765)) 2) &&& 858993459)) 4)) &&& 252645135) + (ush ((((((nI q) - ((ush (nI q) 1) &&& 1431655765)) &&& 858993459) + ((ush ((nI q) - ((ush (nI q) 1) &&& 1431655765)) 2) &&& 858993459)) + (ush ((((nI q) - ((ush (nI q) 1) &&& 1431655765)) &&& 858993459) + ((ush ((nI q) - ((ush (nI q) 1) &&& 1431655765)) 2) &&& 858993459)) 4)) &&& 252645135) 8)) 16)))]) hx hb dJ4_bitCount_47 rfl hl (by decide) rfl (fun ls hl => ?_)
  refine lv_iload_n hx hb dJ4_bitCount_48 rfl (lv_at hl 0 rfl) ?_
  refine lv_bipush (v := 63) hx hb dJ4_bitCount_49 rfl ?_
  refine lv_iand hx hb dJ4_bitCount_51 ?_
  exact fr_i hx hb hr hlocks hX hC () (congrArg (fun z => some (Value.int z)) ((show ∀ q, q < 256 → nI (p_pop q) = ((((((((nI q) - ((ush (nI q) 1) &&& 1431655765)) &&& 858993459) + ((ush ((nI q) - ((ush (nI q) 1) &&& 1431655765)) 2) &&& 858993459)) + (ush ((((nI q) - ((ush (nI q) 1) &&& 1431655765)) &&& 858993459) + ((ush ((nI q) - ((ush (nI q) 1) &&& 1431655765)) 2) &&& 858993459)) 4)) &&& 252645135) + (ush ((((((nI q) - ((ush (nI q) 1) &&& 1431655765)) &&& 858993459) + ((ush ((nI q) - ((ush (nI q) 1) &&& 1431655765)) 2) &&& 858993459)) + (ush ((((nI q) - ((ush (nI q) 1) &&& 1431655765)) &&& 858993459) + ((ush ((nI q) - ((ush (nI q) 1) &&& 1431655765)) 2) &&& 858993459)) 4)) &&& 252645135) 8)) + (ush (((((((nI q) - ((ush (nI q) 1) &&& 1431655765)) &&& 858993459) + ((ush ((nI q) - ((ush (nI q) 1) &&& 1431655765)) 2) &&& 858993459)) + (ush ((((nI q) - ((ush (nI q) 1) &&& 1431655765)) &&& 858993459) + ((ush ((nI q) - ((ush (nI q) 1) &&& 1431655765)) 2) &&& 858993459)) 4)) &&& 252645135) + (ush ((((((nI q) - ((ush (nI q) 1) &&& 1431655765)) &&& 858993459) + ((ush ((nI q) - ((ush (nI q) 1) &&& 1431655765)) 2) &&& 858993459)) + (ush ((((nI q) - ((ush (nI q) 1) &&& 1431655765)) &&& 858993459) + ((ush ((nI q) - ((ush (nI q) 1) &&& 1431655765)) 2) &&& 858993459)) 4)) &&& 252645135) 8)) 16)) &&& 63 from by decide +kernel) q hq)) rfl dJ4_bitCount_52
set_option maxRecDepth 100000 in
theorem m_J5_bitCount {l : Launch} {F : Fam} {ct : Ct} (q : Nat) (hq : q < 16) : Cm l yJ5_bitCount (ws_ yJ5_bitCount cJ5_bitCount 2 (some .int)) ({ frames := 0, cells := 0, slots := 0, locals := 0 }) F [.long (lN q)] (ct) (fun _ : Unit => some (.int (nI (p_pop q)))) (fun _ => ct) := by
  refine Cm.start (by decide) (Nat.le_of_ble_eq_true rfl) ?_
  intro p e s m below meth c hf hX hC ls hl
  obtain ⟨hx, hb, hr, hml, hown, hts, hlocks⟩ := hf
  have hl : lv_has ls 2 [(0, .long (lN q))] := hl
  have hown : s.vm.findClass "java/lang/Long" = some m.cls := hown
  refine lv_lload_n hx hb dJ5_bitCount_0 rfl (lv_at hl 0 rfl) ?_
  refine lv_lload_n hx hb dJ5_bitCount_1 rfl (lv_at hl 0 rfl) ?_
  refine lv_iconst (v := 1) hx hb dJ5_bitCount_2 rfl ?_
  refine lv_lushr (v := lush (lN q) 1) hx hb dJ5_bitCount_3 rfl ?_
  refine lv_ldc2 (v := 6148914691236517205) hx hb hown (hts _ q1023) dJ5_bitCount_4 ?_
  refine lv_land hx hb dJ5_bitCount_7 ?_
  refine lv_lsub hx hb dJ5_bitCount_8 ?_
  refine lv_lstore_n (lv' := [(0, .long ((lN q) - ((lush (lN q) 1) &&& 6148914691236517205)))]) hx hb dJ5_bitCount_9 rfl hl (by decide) rfl (fun ls hl => ?_)
  refine lv_lload_n hx hb dJ5_bitCount_10 rfl (lv_at hl 0 rfl) ?_
  refine lv_ldc2 (v := 3689348814741910323) hx hb hown (hts _ q1024) dJ5_bitCount_11 ?_
  refine lv_land hx hb dJ5_bitCount_14 ?_
  refine lv_lload_n hx hb dJ5_bitCount_15 rfl (lv_at hl 0 rfl) ?_
  refine lv_iconst (v := 2) hx hb dJ5_bitCount_16 rfl ?_
  refine lv_lushr (v := lush ((lN q) - ((lush (lN q) 1) &&& 6148914691236517205)) 2) hx hb dJ5_bitCount_17 rfl ?_
  refine lv_ldc2 (v := 3689348814741910323) hx hb hown (hts _ q1024) dJ5_bitCount_18 ?_
  refine lv_land hx hb dJ5_bitCount_21 ?_
  refine lv_ladd hx hb dJ5_bitCount_22 ?_
  refine lv_lstore_n (lv' := [(0, .long ((((lN q) - ((lush (lN q) 1) &&& 6148914691236517205)) &&& 3689348814741910323) + ((lush ((lN q) - ((lush (lN q) 1) &&& 6148914691236517205)) 2) &&& 3689348814741910323)))]) hx hb dJ5_bitCount_23 rfl hl (by decide) rfl (fun ls hl => ?_)
  refine lv_lload_n hx hb dJ5_bitCount_24 rfl (lv_at hl 0 rfl) ?_
  refine lv_lload_n hx hb dJ5_bitCount_25 rfl (lv_at hl 0 rfl) ?_
  refine lv_iconst (v := 4) hx hb dJ5_bitCount_26 rfl ?_
  refine lv_lushr (v := lush ((((lN q) - ((lush (lN q) 1) &&& 6148914691236517205)) &&& 3689348814741910323) + ((lush ((lN q) - ((lush (lN q) 1) &&& 6148914691236517205)) 2) &&& 3689348814741910323)) 4) hx hb dJ5_bitCount_27 rfl ?_
  refine lv_ladd hx hb dJ5_bitCount_28 ?_
  refine lv_ldc2 (v := 1085102592571150095) hx hb hown (hts _ q1025) dJ5_bitCount_29 ?_
  refine lv_land hx hb dJ5_bitCount_32 ?_
  refine lv_lstore_n (lv' := [(0, .long ((((((lN q) - ((lush (lN q) 1) &&& 6148914691236517205)) &&& 3689348814741910323) + ((lush ((lN q) - ((lush (lN q) 1) &&& 6148914691236517205)) 2) &&& 3689348814741910323)) + (lush ((((lN q) - ((lush (lN q) 1) &&& 6148914691236517205)) &&& 3689348814741910323) + ((lush ((lN q) - ((lush (lN q) 1) &&& 6148914691236517205)) 2) &&& 3689348814741910323)) 4)) &&& 1085102592571150095))]) hx hb dJ5_bitCount_33 rfl hl (by decide) rfl (fun ls hl => ?_)
  refine lv_lload_n hx hb dJ5_bitCount_34 rfl (lv_at hl 0 rfl) ?_
  refine lv_lload_n hx hb dJ5_bitCount_35 rfl (lv_at hl 0 rfl) ?_
  refine lv_bipush (v := 8) hx hb dJ5_bitCount_36 rfl ?_
  refine lv_lushr (v := lush ((((((lN q) - ((lush (lN q) 1) &&& 6148914691236517205)) &&& 3689348814741910323) + ((lush ((lN q) - ((lush (lN q) 1) &&& 6148914691236517205)) 2) &&& 3689348814741910323)) + (lush ((((lN q) - ((lush (lN q) 1) &&& 6148914691236517205)) &&& 3689348814741910323) + ((lush ((lN q) - ((lush (lN q) 1) &&& 6148914691236517205)) 2) &&& 3689348814741910323)) 4)) &&& 1085102592571150095) 8) hx hb dJ5_bitCount_38 rfl ?_
  refine lv_ladd hx hb dJ5_bitCount_39 ?_
  refine lv_lstore_n (lv' := [(0, .long (((((((lN q) - ((lush (lN q) 1) &&& 6148914691236517205)) &&& 3689348814741910323) + ((lush ((lN q) - ((lush (lN q) 1) &&& 6148914691236517205)) 2) &&& 3689348814741910323)) + (lush ((((lN q) - ((lush (lN q) 1) &&& 6148914691236517205)) &&& 3689348814741910323) + ((lush ((lN q) - ((lush (lN q) 1) &&& 6148914691236517205)) 2) &&& 3689348814741910323)) 4)) &&& 1085102592571150095) + (lush ((((((lN q) - ((lush (lN q) 1) &&& 6148914691236517205)) &&& 3689348814741910323) + ((lush ((lN q) - ((lush (lN q) 1) &&& 6148914691236517205)) 2) &&& 3689348814741910323)) + (lush ((((lN q) - ((lush (lN q) 1) &&& 6148914691236517205)) &&& 3689348814741910323) + ((lush ((lN q) - ((lush (lN q) 1) &&& 6148914691236517205)) 2) &&& 3689348814741910323)) 4)) &&& 1085102592571150095) 8)))]) hx hb dJ5_bitCount_40 rfl hl (by decide) rfl (fun ls hl => ?_)
  refine lv_lload_n hx hb dJ5_bitCount_41 rfl (lv_at hl 0 rfl) ?_
  refine lv_lload_n hx hb dJ5_bitCount_42 rfl (lv_at hl 0 rfl) ?_
  refine lv_bipush (v := 16) hx hb dJ5_bitCount_43 rfl ?_
  refine lv_lushr (v := lush (((((((lN q) - ((lush (lN q) 1) &&& 6148914691236517205)) &&& 3689348814741910323) + ((lush ((lN q) - ((lush (lN q) 1) &&& 6148914691236517205)) 2) &&& 3689348814741910323)) + (lush ((((lN q) - ((lush (lN q) 1) &&& 6148914691236517205)) &&& 3689348814741910323) + ((lush ((lN q) - ((lush (lN q) 1) &&& 6148914691236517205)) 2) &&& 3689348814741910323)) 4)) &&& 1085102592571150095) + (lush ((((((lN q) - ((lush (lN q) 1) &&& 6148914691236517205)) &&& 3689348814741910323) + ((lush ((lN q) - ((lush (lN q) 1) &&& 6148914691236517205)) 2) &&& 3689348814741910323)) + (lush ((((lN q) - ((lush (lN q) 1) &&& 6148914691236517205)) &&& 3689348814741910323) + ((lush ((lN q) - ((lush (lN q) 1) &&& 6148914691236517205)) 2) &&& 3689348814741910323)) 4)) &&& 1085102592571150095) 8)) 16) hx hb dJ5_bitCount_45 rfl ?_
  refine lv_ladd hx hb dJ5_bitCount_46 ?_
  refine lv_lstore_n (lv' := [(0, .long ((((((((lN q) - ((lush (lN q) 1) &&& 6148914691236517205)) &&& 3689348814741910323) + ((lush ((lN q) - ((lush (lN q) 1) &&& 6148914691236517205)) 2) &&& 3689348814741910323)) + (lush ((((lN q) - ((lush (lN q) 1) &&& 6148914691236517205)) &&& 3689348814741910323) + ((lush ((lN q) - ((lush (lN q) 1) &&& 6148914691236517205)) 2) &&& 3689348814741910323)) 4)) &&& 1085102592571150095) + (lush ((((((lN q) - ((lush (lN q) 1) &&& 6148914691236517205)) &&& 3689348814741910323) + ((lush ((lN q) - ((lush (lN q) 1) &&& 6148914691236517205)) 2) &&& 3689348814741910323)) + (lush ((((lN q) - ((lush (lN q) 1) &&& 6148914691236517205)) &&& 3689348814741910323) + ((lush ((lN q) - ((lush (lN q) 1) &&& 6148914691236517205)) 2) &&& 3689348814741910323)) 4)) &&& 1085102592571150095) 8)) + (lush (((((((lN q) - ((lush (lN q) 1) &&& 6148914691236517205)) &&& 3689348814741910323) + ((lush ((lN q) - ((lush (lN q) 1) &&& 6148914691236517205)) 2) &&& 3689348814741910323)) + (lush ((((lN q) - ((lush (lN q) 1) &&& 6148914691236517205)) &&& 3689348814741910323) + ((lush ((lN q) - ((lush (lN q) 1) &&& 6148914691236517205)) 2) &&& 3689348814741910323)) 4)) &&& 1085102592571150095) + (lush ((((((lN q) - ((lush (lN q) 1) &&& 6148914691236517205)) &&& 3689348814741910323) + ((lush ((lN q) - ((lush (lN q) 1) &&& 6148914691236517205)) 2) &&& 3689348814741910323)) + (lush ((((lN q) - ((lush (lN q) 1) &&& 6148914691236517205)) &&& 3689348814741910323) + ((lush ((lN q) - ((lush (lN q) 1) &&& 6148914691236517205)) 2) &&& 3689348814741910323)) 4)) &&& 1085102592571150095) 8)) 16)))]) hx hb dJ5_bitCount_47 rfl hl (by decide) rfl (fun ls hl => ?_)
  refine lv_lload_n hx hb dJ5_bitCount_48 rfl (lv_at hl 0 rfl) ?_
  refine lv_lload_n hx hb dJ5_bitCount_49 rfl (lv_at hl 0 rfl) ?_
  refine lv_bipush (v := 32) hx hb dJ5_bitCount_50 rfl ?_
  refine lv_lushr (v := lush ((((((((lN q) - ((lush (lN q) 1) &&& 6148914691236517205)) &&& 3689348814741910323) + ((lush ((lN q) - ((lush (lN q) 1) &&& 6148914691236517205)) 2) &&& 3689348814741910323)) + (lush ((((lN q) - ((lush (lN q) 1) &&& 6148914691236517205)) &&& 3689348814741910323) + ((lush ((lN q) - ((lush (lN q) 1) &&& 6148914691236517205)) 2) &&& 3689348814741910323)) 4)) &&& 1085102592571150095) + (lush ((((((lN q) - ((lush (lN q) 1) &&& 6148914691236517205)) &&& 3689348814741910323) + ((lush ((lN q) - ((lush (lN q) 1) &&& 6148914691236517205)) 2) &&& 3689348814741910323)) + (lush ((((lN q) - ((lush (lN q) 1) &&& 6148914691236517205)) &&& 3689348814741910323) + ((lush ((lN q) - ((lush (lN q) 1) &&& 6148914691236517205)) 2) &&& 3689348814741910323)) 4)) &&& 1085102592571150095) 8)) + (lush (((((((lN q) - ((lush (lN q) 1) &&& 6148914691236517205)) &&& 3689348814741910323) + ((lush ((lN q) - ((lush (lN q) 1) &&& 6148914691236517205)) 2) &&& 3689348814741910323)) + (lush ((((lN q) - ((lush (lN q) 1) &&& 6148914691236517205)) &&& 3689348814741910323) + ((lush ((lN q) - ((lush (lN q) 1) &&& 6148914691236517205)) 2) &&& 3689348814741910323)) 4)) &&& 1085102592571150095) + (lush ((((((lN q) - ((lush (lN q) 1) &&& 6148914691236517205)) &&& 3689348814741910323) + ((lush ((lN q) - ((lush (lN q) 1) &&& 6148914691236517205)) 2) &&& 3689348814741910323)) + (lush ((((lN q) - ((lush (lN q) 1) &&& 6148914691236517205)) &&& 3689348814741910323) + ((lush ((lN q) - ((lush (lN q) 1) &&& 6148914691236517205)) 2) &&& 3689348814741910323)) 4)) &&& 1085102592571150095) 8)) 16)) 32) hx hb dJ5_bitCount_52 rfl ?_
  refine lv_ladd hx hb dJ5_bitCount_53 ?_
  refine lv_lstore_n (lv' := [(0, .long (((((((((lN q) - ((lush (lN q) 1) &&& 6148914691236517205)) &&& 3689348814741910323) + ((lush ((lN q) - ((lush (lN q) 1) &&& 6148914691236517205)) 2) &&& 3689348814741910323)) + (lush ((((lN q) - ((lush (lN q) 1) &&& 6148914691236517205)) &&& 3689348814741910323) + ((lush ((lN q) - ((lush (lN q) 1) &&& 6148914691236517205)) 2) &&& 3689348814741910323)) 4)) &&& 1085102592571150095) + (lush ((((((lN q) - ((lush (lN q) 1) &&& 6148914691236517205)) &&& 3689348814741910323) + ((lush ((lN q) - ((lush (lN q) 1) &&& 6148914691236517205)) 2) &&& 3689348814741910323)) + (lush ((((lN q) - ((lush (lN q) 1) &&& 6148914691236517205)) &&& 3689348814741910323) + ((lush ((lN q) - ((lush (lN q) 1) &&& 6148914691236517205)) 2) &&& 3689348814741910323)) 4)) &&& 1085102592571150095) 8)) + (lush (((((((lN q) - ((lush (lN q) 1) &&& 6148914691236517205)) &&& 3689348814741910323) + ((lush ((lN q) - ((lush (lN q) 1) &&& 6148914691236517205)) 2) &&& 3689348814741910323)) + (lush ((((lN q) - ((lush (lN q) 1) &&& 6148914691236517205)) &&& 3689348814741910323) + ((lush ((lN q) - ((lush (lN q) 1) &&& 6148914691236517205)) 2) &&& 3689348814741910323)) 4)) &&& 1085102592571150095) + (lush ((((((lN q) - ((lush (lN q) 1) &&& 6148914691236517205)) &&& 3689348814741910323) + ((lush ((lN q) - ((lush (lN q) 1) &&& 6148914691236517205)) 2) &&& 3689348814741910323)) + (lush ((((lN q) - ((lush (lN q) 1) &&& 6148914691236517205)) &&& 3689348814741910323) + ((lush ((lN q) - ((lush (lN q) 1) &&& 6148914691236517205)) 2) &&& 3689348814741910323)) 4)) &&& 1085102592571150095) 8)) 16)) + (lush ((((((((lN q) - ((lush (lN q) 1) &&& 6148914691236517205)) &&& 3689348814741910323) + ((lush ((lN q) - ((lush (lN q) 1) &&& 6148914691236517205)) 2) &&& 3689348814741910323)) + (lush ((((lN q) - ((lush (lN q) 1) &&& 6148914691236517205)) &&& 3689348814741910323) + ((lush ((lN q) - ((lush (lN q) 1) &&& 6148914691236517205)) 2) &&& 3689348814741910323)) 4)) &&& 1085102592571150095) + (lush ((((((lN q) - ((lush (lN q) 1) &&& 6148914691236517205)) &&& 3689348814741910323) + ((lush ((lN q) - ((lush (lN q) 1) &&& 6148914691236517205)) 2) &&& 3689348814741910323)) + (lush ((((lN q) - ((lush (lN q) 1) &&& 6148914691236517205)) &&& 3689348814741910323) + ((lush ((lN q) - ((lush (lN q) 1) &&& 6148914691236517205)) 2) &&& 3689348814741910323)) 4)) &&& 1085102592571150095) 8)) + (lush (((((((lN q) - ((lush (lN q) 1) &&& 6148914691236517205)) &&& 3689348814741910323) + ((lush ((lN q) - ((lush (lN q) 1) &&& 6148914691236517205)) 2) &&& 3689348814741910323)) + (lush ((((lN q) - ((lush (lN q) 1) &&& 6148914691236517205)) &&& 3689348814741910323) + ((lush ((lN q) - ((lush (lN q) 1) &&& 6148914691236517205)) 2) &&& 3689348814741910323)) 4)) &&& 1085102592571150095) + (lush ((((((lN q) - ((lush (lN q) 1) &&& 6148914691236517205)) &&& 3689348814741910323) + ((lush ((lN q) - ((lush (lN q) 1) &&& 6148914691236517205)) 2) &&& 3689348814741910323)) + (lush ((((lN q) - ((lush (lN q) 1) &&& 6148914691236517205)) &&& 3689348814741910323) + ((lush ((lN q) - ((lush (lN q) 1) &&& 6148914691236517205)) 2) &&& 3689348814741910323)) 4)) &&& 1085102592571150095) 8)) 16)) 32)))]) hx hb dJ5_bitCount_54 rfl hl (by decide) rfl (fun ls hl => ?_)
  refine lv_lload_n hx hb dJ5_bitCount_55 rfl (lv_at hl 0 rfl) ?_
  refine lv_l2i (v := (((((((((lN q) - ((lush (lN q) 1) &&& 6148914691236517205)) &&& 3689348814741910323) + ((lush ((lN q) - ((lush (lN q) 1) &&& 6148914691236517205)) 2) &&& 3689348814741910323)) + (lush ((((lN q) - ((lush (lN q) 1) &&& 6148914691236517205)) &&& 3689348814741910323) + ((lush ((lN q) - ((lush (lN q) 1) &&& 6148914691236517205)) 2) &&& 3689348814741910323)) 4)) &&& 1085102592571150095) + (lush ((((((lN q) - ((lush (lN q) 1) &&& 6148914691236517205)) &&& 3689348814741910323) + ((lush ((lN q) - ((lush (lN q) 1) &&& 6148914691236517205)) 2) &&& 3689348814741910323)) + (lush ((((lN q) - ((lush (lN q) 1) &&& 6148914691236517205)) &&& 3689348814741910323) + ((lush ((lN q) - ((lush (lN q) 1) &&& 6148914691236517205)) 2) &&& 3689348814741910323)) 4)) &&& 1085102592571150095) 8)) + (lush (((((((lN q) - ((lush (lN q) 1) &&& 6148914691236517205)) &&& 3689348814741910323) + ((lush ((lN q) - ((lush (lN q) 1) &&& 6148914691236517205)) 2) &&& 3689348814741910323)) + (lush ((((lN q) - ((lush (lN q) 1) &&& 6148914691236517205)) &&& 3689348814741910323) + ((lush ((lN q) - ((lush (lN q) 1) &&& 6148914691236517205)) 2) &&& 3689348814741910323)) 4)) &&& 1085102592571150095) + (lush ((((((lN q) - ((lush (lN q) 1) &&& 6148914691236517205)) &&& 3689348814741910323) + ((lush ((lN q) - ((lush (lN q) 1) &&& 6148914691236517205)) 2) &&& 3689348814741910323)) + (lush ((((lN q) - ((lush (lN q) 1) &&& 6148914691236517205)) &&& 3689348814741910323) + ((lush ((lN q) - ((lush (lN q) 1) &&& 6148914691236517205)) 2) &&& 3689348814741910323)) 4)) &&& 1085102592571150095) 8)) 16)) + (lush ((((((((lN q) - ((lush (lN q) 1) &&& 6148914691236517205)) &&& 3689348814741910323) + ((lush ((lN q) - ((lush (lN q) 1) &&& 6148914691236517205)) 2) &&& 3689348814741910323)) + (lush ((((lN q) - ((lush (lN q) 1) &&& 6148914691236517205)) &&& 3689348814741910323) + ((lush ((lN q) - ((lush (lN q) 1) &&& 6148914691236517205)) 2) &&& 3689348814741910323)) 4)) &&& 1085102592571150095) + (lush ((((((lN q) - ((lush (lN q) 1) &&& 6148914691236517205)) &&& 3689348814741910323) + ((lush ((lN q) - ((lush (lN q) 1) &&& 6148914691236517205)) 2) &&& 3689348814741910323)) + (lush ((((lN q) - ((lush (lN q) 1) &&& 6148914691236517205)) &&& 3689348814741910323) + ((lush ((lN q) - ((lush (lN q) 1) &&& 6148914691236517205)) 2) &&& 3689348814741910323)) 4)) &&& 1085102592571150095) 8)) + (lush (((((((lN q) - ((lush (lN q) 1) &&& 6148914691236517205)) &&& 3689348814741910323) + ((lush ((lN q) - ((lush (lN q) 1) &&& 6148914691236517205)) 2) &&& 3689348814741910323)) + (lush ((((lN q) - ((lush (lN q) 1) &&& 6148914691236517205)) &&& 3689348814741910323) + ((lush ((lN q) - ((lush (lN q) 1) &&& 6148914691236517205)) 2) &&& 3689348814741910323)) 4)) &&& 1085102592571150095) + (lush ((((((lN q) - ((lush (lN q) 1) &&& 6148914691236517205)) &&& 3689348814741910323) + ((lush ((lN q) - ((lush (lN q) 1) &&& 6148914691236517205)) 2) &&& 3689348814741910323)) + (lush ((((lN q) - ((lush (lN q) 1) &&& 6148914691236517205)) &&& 3689348814741910323) + ((lush ((lN q) - ((lush (lN q) 1) &&& 6148914691236517205)) 2) &&& 3689348814741910323)) 4)) &&& 1085102592571150095) 8)) 16)) 32)).toInt32) hx hb dJ5_bitCount_56 rfl ?_
  refine lv_bipush (v := 127) hx hb dJ5_bitCount_57 rfl ?_
  refine lv_iand hx hb dJ5_bitCount_59 ?_
  exact fr_i hx hb hr hlocks hX hC () (congrArg (fun z => some (Value.int z)) ((show ∀ q, q < 16 → nI (p_pop q) = ((((((((((lN q) - ((lush (lN q) 1) &&& 6148914691236517205)) &&& 3689348814741910323) + ((lush ((lN q) - ((lush (lN q) 1) &&& 6148914691236517205)) 2) &&& 3689348814741910323)) + (lush ((((lN q) - ((lush (lN q) 1) &&& 6148914691236517205)) &&& 3689348814741910323) + ((lush ((lN q) - ((lush (lN q) 1) &&& 6148914691236517205)) 2) &&& 3689348814741910323)) 4)) &&& 1085102592571150095) + (lush ((((((lN q) - ((lush (lN q) 1) &&& 6148914691236517205)) &&& 3689348814741910323) + ((lush ((lN q) - ((lush (lN q) 1) &&& 6148914691236517205)) 2) &&& 3689348814741910323)) + (lush ((((lN q) - ((lush (lN q) 1) &&& 6148914691236517205)) &&& 3689348814741910323) + ((lush ((lN q) - ((lush (lN q) 1) &&& 6148914691236517205)) 2) &&& 3689348814741910323)) 4)) &&& 1085102592571150095) 8)) + (lush (((((((lN q) - ((lush (lN q) 1) &&& 6148914691236517205)) &&& 3689348814741910323) + ((lush ((lN q) - ((lush (lN q) 1) &&& 6148914691236517205)) 2) &&& 3689348814741910323)) + (lush ((((lN q) - ((lush (lN q) 1) &&& 6148914691236517205)) &&& 3689348814741910323) + ((lush ((lN q) - ((lush (lN q) 1) &&& 6148914691236517205)) 2) &&& 3689348814741910323)) 4)) &&& 1085102592571150095) + (lush ((((((lN q) - ((lush (lN q) 1) &&& 6148914691236517205)) &&& 3689348814741910323) + ((lush ((lN q) - ((lush (lN q) 1) &&& 6148914691236517205)) 2) &&& 3689348814741910323)) + (lush ((((lN q) - ((lush (lN q) 1) &&& 6148914691236517205)) &&& 3689348814741910323) + ((lush ((lN q) - ((lush (lN q) 1) &&& 6148914691236517205)) 2) &&& 3689348814741910323)) 4)) &&& 1085102592571150095) 8)) 16)) + (lush ((((((((lN q) - ((lush (lN q) 1) &&& 6148914691236517205)) &&& 3689348814741910323) + ((lush ((lN q) - ((lush (lN q) 1) &&& 6148914691236517205)) 2) &&& 3689348814741910323)) + (lush ((((lN q) - ((lush (lN q) 1) &&& 6148914691236517205)) &&& 3689348814741910323) + ((lush ((lN q) - ((lush (lN q) 1) &&& 6148914691236517205)) 2) &&& 3689348814741910323)) 4)) &&& 1085102592571150095) + (lush ((((((lN q) - ((lush (lN q) 1) &&& 6148914691236517205)) &&& 3689348814741910323) + ((lush ((lN q) - ((lush (lN q) 1) &&& 6148914691236517205)) 2) &&& 3689348814741910323)) + (lush ((((lN q) - ((lush (lN q) 1) &&& 6148914691236517205)) &&& 3689348814741910323) + ((lush ((lN q) - ((lush (lN q) 1) &&& 6148914691236517205)) 2) &&& 3689348814741910323)) 4)) &&& 1085102592571150095) 8)) + (lush (((((((lN q) - ((lush (lN q) 1) &&& 6148914691236517205)) &&& 3689348814741910323) + ((lush ((lN q) - ((lush (lN q) 1) &&& 6148914691236517205)) 2) &&& 3689348814741910323)) + (lush ((((lN q) - ((lush (lN q) 1) &&& 6148914691236517205)) &&& 3689348814741910323) + ((lush ((lN q) - ((lush (lN q) 1) &&& 6148914691236517205)) 2) &&& 3689348814741910323)) 4)) &&& 1085102592571150095) + (lush ((((((lN q) - ((lush (lN q) 1) &&& 6148914691236517205)) &&& 3689348814741910323) + ((lush ((lN q) - ((lush (lN q) 1) &&& 6148914691236517205)) 2) &&& 3689348814741910323)) + (lush ((((lN q) - ((lush (lN q) 1) &&& 6148914691236517205)) &&& 3689348814741910323) + ((lush ((lN q) - ((lush (lN q) 1) &&& 6148914691236517205)) 2) &&& 3689348814741910323)) 4)) &&& 1085102592571150095) 8)) 16)) 32)).toInt32) &&& 127 from by decide +kernel) q hq)) rfl dJ5_bitCount_60
set_option maxRecDepth 100000 in
theorem m_J4_numberOfTrailingZeros {l : Launch} {F : Fam} {ct : Ct} (x : Int32) (v : Nat) (hv : v < 32) (hx1 : (x ^^^ (-1)) &&& (x - 1) = nI (2 ^ v - 1)) : Cm l yJ4_numberOfTrailingZeros (ws_ yJ4_numberOfTrailingZeros cJ4_numberOfTrailingZeros 2 (some .int)) ({ frames := 0, cells := 0, slots := 0, locals := 0 }) F [.int x] (ct) (fun _ : Unit => some (.int (nI v))) (fun _ => ct) := by
  refine Cm.start (by decide) (Nat.le_of_ble_eq_true rfl) ?_
  intro p e s m below meth c hf hX hC ls hl
  obtain ⟨hx, hb, hr, hml, hown, hts, hlocks⟩ := hf
  have hl : lv_has ls 2 [(0, .int x)] := hl
  have hown : s.vm.findClass "java/lang/Integer" = some m.cls := hown
  refine lv_iload_n hx hb dJ4_numberOfTrailingZeros_0 rfl (lv_at hl 0 rfl) ?_
  refine lv_iconst (v := (-1)) hx hb dJ4_numberOfTrailingZeros_1 rfl ?_
  refine lv_ixor hx hb dJ4_numberOfTrailingZeros_2 ?_
  refine lv_iload_n hx hb dJ4_numberOfTrailingZeros_3 rfl (lv_at hl 0 rfl) ?_
  refine lv_iconst (v := 1) hx hb dJ4_numberOfTrailingZeros_4 rfl ?_
  refine lv_isub hx hb dJ4_numberOfTrailingZeros_5 ?_
  refine lv_iand hx hb dJ4_numberOfTrailingZeros_6 ?_
  rw [hx1]
  refine lv_istore_n (lv' := [(0, .int (nI (2 ^ v - 1)))]) hx hb dJ4_numberOfTrailingZeros_7 rfl hl (by decide) rfl (fun ls hl => ?_)
  refine lv_iload_n hx hb dJ4_numberOfTrailingZeros_8 rfl (lv_at hl 0 rfl) ?_
  refine lv_if_gt (tgt := 17) hx hb dJ4_numberOfTrailingZeros_9 (by decide) (fun c_1 => ?_) (fun c_1 => ?_)
  · refine lv_iconst (v := 1) hx hb dJ4_numberOfTrailingZeros_17 rfl ?_
    refine lv_istore_n (lv' := [(1, .int 1), (0, .int (nI (2 ^ v - 1)))]) hx hb dJ4_numberOfTrailingZeros_18 rfl hl (by decide) rfl (fun ls hl => ?_)
    refine lv_iload_n hx hb dJ4_numberOfTrailingZeros_19 rfl (lv_at hl 1 rfl) ?_
    refine lv_ldcw (v := 65536) hx hb hown (hts _ q918) dJ4_numberOfTrailingZeros_20 ?_
    refine fj_le (tgt := 34) hx hb dJ4_numberOfTrailingZeros_23 (by decide) (fun c_2 => ?_) (fun c_2 => ?_)
    · refine lv_iload_n hx hb dJ4_numberOfTrailingZeros_34 rfl (lv_at hl 1 rfl) ?_
      refine lv_sipush (v := 256) hx hb dJ4_numberOfTrailingZeros_35 rfl ?_
      refine fj_le (tgt := 49) hx hb dJ4_numberOfTrailingZeros_38 (by decide) (fun c_3 => ?_) (fun c_3 => ?_)
      · refine lv_iload_n hx hb dJ4_numberOfTrailingZeros_49 rfl (lv_at hl 1 rfl) ?_
        refine lv_bipush (v := 16) hx hb dJ4_numberOfTrailingZeros_50 rfl ?_
        refine fj_le (tgt := 62) hx hb dJ4_numberOfTrailingZeros_52 (by decide) (fun c_4 => ?_) (fun c_4 => ?_)
        · refine lv_iload_n hx hb dJ4_numberOfTrailingZeros_62 rfl (lv_at hl 1 rfl) ?_
          refine lv_iconst (v := 4) hx hb dJ4_numberOfTrailingZeros_63 rfl ?_
          refine fj_le (tgt := 74) hx hb dJ4_numberOfTrailingZeros_64 (by decide) (fun c_5 => ?_) (fun c_5 => ?_)
          · refine lv_iload_n hx hb dJ4_numberOfTrailingZeros_74 rfl (lv_at hl 0 rfl) ?_
            refine lv_iload_n hx hb dJ4_numberOfTrailingZeros_75 rfl (lv_at hl 1 rfl) ?_
            refine lv_iconst (v := 1) hx hb dJ4_numberOfTrailingZeros_76 rfl ?_
            refine fw_iushr hx hb dJ4_numberOfTrailingZeros_77 ?_
            refine lv_iadd hx hb dJ4_numberOfTrailingZeros_78 ?_
            exact fr_i hx hb hr hlocks hX hC () (congrArg (fun z => some (Value.int z)) ((show ∀ v, v < 32 → (True ∧ (0 < (nI (2 ^ v - 1))) ∧ ¬ (65536 < (nI (2 ^ v - 1))) ∧ ¬ (256 < (nI (2 ^ v - 1))) ∧ ¬ (16 < (nI (2 ^ v - 1))) ∧ ¬ (4 < (nI (2 ^ v - 1)))) → nI v = 1 + (ush (nI (2 ^ v - 1)) 1) from by decide +kernel) v hv ⟨trivial, c_1, c_2, c_3, c_4, c_5⟩)) rfl dJ4_numberOfTrailingZeros_79
          · refine lv_iinc (v := 3) (lv' := [(1, .int 3), (0, .int (nI (2 ^ v - 1)))]) hx hb dJ4_numberOfTrailingZeros_67 hl (k := 0) rfl rfl (by decide) rfl (fun ls hl => ?_)
            refine lv_iload_n hx hb dJ4_numberOfTrailingZeros_70 rfl (lv_at hl 1 rfl) ?_
            refine lv_iconst (v := 2) hx hb dJ4_numberOfTrailingZeros_71 rfl ?_
            refine fw_iushr hx hb dJ4_numberOfTrailingZeros_72 ?_
            refine lv_istore_n (lv' := [(0, .int (ush (nI (2 ^ v - 1)) 2)), (1, .int 3)]) hx hb dJ4_numberOfTrailingZeros_73 rfl hl (by decide) rfl (fun ls hl => ?_)
            refine lv_iload_n hx hb dJ4_numberOfTrailingZeros_74 rfl (lv_at hl 1 rfl) ?_
            refine lv_iload_n hx hb dJ4_numberOfTrailingZeros_75 rfl (lv_at hl 0 rfl) ?_
            refine lv_iconst (v := 1) hx hb dJ4_numberOfTrailingZeros_76 rfl ?_
            refine fw_iushr hx hb dJ4_numberOfTrailingZeros_77 ?_
            refine lv_iadd hx hb dJ4_numberOfTrailingZeros_78 ?_
            exact fr_i hx hb hr hlocks hX hC () (congrArg (fun z => some (Value.int z)) ((show ∀ v, v < 32 → (True ∧ (0 < (nI (2 ^ v - 1))) ∧ ¬ (65536 < (nI (2 ^ v - 1))) ∧ ¬ (256 < (nI (2 ^ v - 1))) ∧ ¬ (16 < (nI (2 ^ v - 1))) ∧ (4 < (nI (2 ^ v - 1)))) → nI v = 3 + (ush (ush (nI (2 ^ v - 1)) 2) 1) from by decide +kernel) v hv ⟨trivial, c_1, c_2, c_3, c_4, c_5⟩)) rfl dJ4_numberOfTrailingZeros_79
        · refine lv_iinc (v := 5) (lv' := [(1, .int 5), (0, .int (nI (2 ^ v - 1)))]) hx hb dJ4_numberOfTrailingZeros_55 hl (k := 0) rfl rfl (by decide) rfl (fun ls hl => ?_)
          refine lv_iload_n hx hb dJ4_numberOfTrailingZeros_58 rfl (lv_at hl 1 rfl) ?_
          refine lv_iconst (v := 4) hx hb dJ4_numberOfTrailingZeros_59 rfl ?_
          refine fw_iushr hx hb dJ4_numberOfTrailingZeros_60 ?_
          refine lv_istore_n (lv' := [(0, .int (ush (nI (2 ^ v - 1)) 4)), (1, .int 5)]) hx hb dJ4_numberOfTrailingZeros_61 rfl hl (by decide) rfl (fun ls hl => ?_)
          refine lv_iload_n hx hb dJ4_numberOfTrailingZeros_62 rfl (lv_at hl 0 rfl) ?_
          refine lv_iconst (v := 4) hx hb dJ4_numberOfTrailingZeros_63 rfl ?_
          refine fj_le (tgt := 74) hx hb dJ4_numberOfTrailingZeros_64 (by decide) (fun c_6 => ?_) (fun c_6 => ?_)
          · refine lv_iload_n hx hb dJ4_numberOfTrailingZeros_74 rfl (lv_at hl 1 rfl) ?_
            refine lv_iload_n hx hb dJ4_numberOfTrailingZeros_75 rfl (lv_at hl 0 rfl) ?_
            refine lv_iconst (v := 1) hx hb dJ4_numberOfTrailingZeros_76 rfl ?_
            refine fw_iushr hx hb dJ4_numberOfTrailingZeros_77 ?_
            refine lv_iadd hx hb dJ4_numberOfTrailingZeros_78 ?_
            exact fr_i hx hb hr hlocks hX hC () (congrArg (fun z => some (Value.int z)) ((show ∀ v, v < 32 → (True ∧ (0 < (nI (2 ^ v - 1))) ∧ ¬ (65536 < (nI (2 ^ v - 1))) ∧ ¬ (256 < (nI (2 ^ v - 1))) ∧ (16 < (nI (2 ^ v - 1))) ∧ ¬ (4 < (ush (nI (2 ^ v - 1)) 4))) → nI v = 5 + (ush (ush (nI (2 ^ v - 1)) 4) 1) from by decide +kernel) v hv ⟨trivial, c_1, c_2, c_3, c_4, c_6⟩)) rfl dJ4_numberOfTrailingZeros_79
          · refine lv_iinc (v := 7) (lv' := [(1, .int 7), (0, .int (ush (nI (2 ^ v - 1)) 4))]) hx hb dJ4_numberOfTrailingZeros_67 hl (k := 1) rfl rfl (by decide) rfl (fun ls hl => ?_)
            refine lv_iload_n hx hb dJ4_numberOfTrailingZeros_70 rfl (lv_at hl 1 rfl) ?_
            refine lv_iconst (v := 2) hx hb dJ4_numberOfTrailingZeros_71 rfl ?_
            refine fw_iushr hx hb dJ4_numberOfTrailingZeros_72 ?_
            refine lv_istore_n (lv' := [(0, .int (ush (ush (nI (2 ^ v - 1)) 4) 2)), (1, .int 7)]) hx hb dJ4_numberOfTrailingZeros_73 rfl hl (by decide) rfl (fun ls hl => ?_)
            refine lv_iload_n hx hb dJ4_numberOfTrailingZeros_74 rfl (lv_at hl 1 rfl) ?_
            refine lv_iload_n hx hb dJ4_numberOfTrailingZeros_75 rfl (lv_at hl 0 rfl) ?_
            refine lv_iconst (v := 1) hx hb dJ4_numberOfTrailingZeros_76 rfl ?_
            refine fw_iushr hx hb dJ4_numberOfTrailingZeros_77 ?_
            refine lv_iadd hx hb dJ4_numberOfTrailingZeros_78 ?_
            exact fr_i hx hb hr hlocks hX hC () (congrArg (fun z => some (Value.int z)) ((show ∀ v, v < 32 → (True ∧ (0 < (nI (2 ^ v - 1))) ∧ ¬ (65536 < (nI (2 ^ v - 1))) ∧ ¬ (256 < (nI (2 ^ v - 1))) ∧ (16 < (nI (2 ^ v - 1))) ∧ (4 < (ush (nI (2 ^ v - 1)) 4))) → nI v = 7 + (ush (ush (ush (nI (2 ^ v - 1)) 4) 2) 1) from by decide +kernel) v hv ⟨trivial, c_1, c_2, c_3, c_4, c_6⟩)) rfl dJ4_numberOfTrailingZeros_79
      · refine lv_iinc (v := 9) (lv' := [(1, .int 9), (0, .int (nI (2 ^ v - 1)))]) hx hb dJ4_numberOfTrailingZeros_41 hl (k := 0) rfl rfl (by decide) rfl (fun ls hl => ?_)
        refine lv_iload_n hx hb dJ4_numberOfTrailingZeros_44 rfl (lv_at hl 1 rfl) ?_
        refine lv_bipush (v := 8) hx hb dJ4_numberOfTrailingZeros_45 rfl ?_
        refine fw_iushr hx hb dJ4_numberOfTrailingZeros_47 ?_
        refine lv_istore_n (lv' := [(0, .int (ush (nI (2 ^ v - 1)) 8)), (1, .int 9)]) hx hb dJ4_numberOfTrailingZeros_48 rfl hl (by decide) rfl (fun ls hl => ?_)
        refine lv_iload_n hx hb dJ4_numberOfTrailingZeros_49 rfl (lv_at hl 0 rfl) ?_
        refine lv_bipush (v := 16) hx hb dJ4_numberOfTrailingZeros_50 rfl ?_
        refine fj_le (tgt := 62) hx hb dJ4_numberOfTrailingZeros_52 (by decide) (fun c_7 => ?_) (fun c_7 => ?_)
        · refine lv_iload_n hx hb dJ4_numberOfTrailingZeros_62 rfl (lv_at hl 0 rfl) ?_
          refine lv_iconst (v := 4) hx hb dJ4_numberOfTrailingZeros_63 rfl ?_
          refine fj_le (tgt := 74) hx hb dJ4_numberOfTrailingZeros_64 (by decide) (fun c_8 => ?_) (fun c_8 => ?_)
          · refine lv_iload_n hx hb dJ4_numberOfTrailingZeros_74 rfl (lv_at hl 1 rfl) ?_
            refine lv_iload_n hx hb dJ4_numberOfTrailingZeros_75 rfl (lv_at hl 0 rfl) ?_
            refine lv_iconst (v := 1) hx hb dJ4_numberOfTrailingZeros_76 rfl ?_
            refine fw_iushr hx hb dJ4_numberOfTrailingZeros_77 ?_
            refine lv_iadd hx hb dJ4_numberOfTrailingZeros_78 ?_
            exact fr_i hx hb hr hlocks hX hC () (congrArg (fun z => some (Value.int z)) ((show ∀ v, v < 32 → (True ∧ (0 < (nI (2 ^ v - 1))) ∧ ¬ (65536 < (nI (2 ^ v - 1))) ∧ (256 < (nI (2 ^ v - 1))) ∧ ¬ (16 < (ush (nI (2 ^ v - 1)) 8)) ∧ ¬ (4 < (ush (nI (2 ^ v - 1)) 8))) → nI v = 9 + (ush (ush (nI (2 ^ v - 1)) 8) 1) from by decide +kernel) v hv ⟨trivial, c_1, c_2, c_3, c_7, c_8⟩)) rfl dJ4_numberOfTrailingZeros_79
          · refine lv_iinc (v := 11) (lv' := [(1, .int 11), (0, .int (ush (nI (2 ^ v - 1)) 8))]) hx hb dJ4_numberOfTrailingZeros_67 hl (k := 1) rfl rfl (by decide) rfl (fun ls hl => ?_)
            refine lv_iload_n hx hb dJ4_numberOfTrailingZeros_70 rfl (lv_at hl 1 rfl) ?_
            refine lv_iconst (v := 2) hx hb dJ4_numberOfTrailingZeros_71 rfl ?_
            refine fw_iushr hx hb dJ4_numberOfTrailingZeros_72 ?_
            refine lv_istore_n (lv' := [(0, .int (ush (ush (nI (2 ^ v - 1)) 8) 2)), (1, .int 11)]) hx hb dJ4_numberOfTrailingZeros_73 rfl hl (by decide) rfl (fun ls hl => ?_)
            refine lv_iload_n hx hb dJ4_numberOfTrailingZeros_74 rfl (lv_at hl 1 rfl) ?_
            refine lv_iload_n hx hb dJ4_numberOfTrailingZeros_75 rfl (lv_at hl 0 rfl) ?_
            refine lv_iconst (v := 1) hx hb dJ4_numberOfTrailingZeros_76 rfl ?_
            refine fw_iushr hx hb dJ4_numberOfTrailingZeros_77 ?_
            refine lv_iadd hx hb dJ4_numberOfTrailingZeros_78 ?_
            exact fr_i hx hb hr hlocks hX hC () (congrArg (fun z => some (Value.int z)) ((show ∀ v, v < 32 → (True ∧ (0 < (nI (2 ^ v - 1))) ∧ ¬ (65536 < (nI (2 ^ v - 1))) ∧ (256 < (nI (2 ^ v - 1))) ∧ ¬ (16 < (ush (nI (2 ^ v - 1)) 8)) ∧ (4 < (ush (nI (2 ^ v - 1)) 8))) → nI v = 11 + (ush (ush (ush (nI (2 ^ v - 1)) 8) 2) 1) from by decide +kernel) v hv ⟨trivial, c_1, c_2, c_3, c_7, c_8⟩)) rfl dJ4_numberOfTrailingZeros_79
        · refine lv_iinc (v := 13) (lv' := [(1, .int 13), (0, .int (ush (nI (2 ^ v - 1)) 8))]) hx hb dJ4_numberOfTrailingZeros_55 hl (k := 1) rfl rfl (by decide) rfl (fun ls hl => ?_)
          refine lv_iload_n hx hb dJ4_numberOfTrailingZeros_58 rfl (lv_at hl 1 rfl) ?_
          refine lv_iconst (v := 4) hx hb dJ4_numberOfTrailingZeros_59 rfl ?_
          refine fw_iushr hx hb dJ4_numberOfTrailingZeros_60 ?_
          refine lv_istore_n (lv' := [(0, .int (ush (ush (nI (2 ^ v - 1)) 8) 4)), (1, .int 13)]) hx hb dJ4_numberOfTrailingZeros_61 rfl hl (by decide) rfl (fun ls hl => ?_)
          refine lv_iload_n hx hb dJ4_numberOfTrailingZeros_62 rfl (lv_at hl 0 rfl) ?_
          refine lv_iconst (v := 4) hx hb dJ4_numberOfTrailingZeros_63 rfl ?_
          refine fj_le (tgt := 74) hx hb dJ4_numberOfTrailingZeros_64 (by decide) (fun c_9 => ?_) (fun c_9 => ?_)
          · refine lv_iload_n hx hb dJ4_numberOfTrailingZeros_74 rfl (lv_at hl 1 rfl) ?_
            refine lv_iload_n hx hb dJ4_numberOfTrailingZeros_75 rfl (lv_at hl 0 rfl) ?_
            refine lv_iconst (v := 1) hx hb dJ4_numberOfTrailingZeros_76 rfl ?_
            refine fw_iushr hx hb dJ4_numberOfTrailingZeros_77 ?_
            refine lv_iadd hx hb dJ4_numberOfTrailingZeros_78 ?_
            exact fr_i hx hb hr hlocks hX hC () (congrArg (fun z => some (Value.int z)) ((show ∀ v, v < 32 → (True ∧ (0 < (nI (2 ^ v - 1))) ∧ ¬ (65536 < (nI (2 ^ v - 1))) ∧ (256 < (nI (2 ^ v - 1))) ∧ (16 < (ush (nI (2 ^ v - 1)) 8)) ∧ ¬ (4 < (ush (ush (nI (2 ^ v - 1)) 8) 4))) → nI v = 13 + (ush (ush (ush (nI (2 ^ v - 1)) 8) 4) 1) from by decide +kernel) v hv ⟨trivial, c_1, c_2, c_3, c_7, c_9⟩)) rfl dJ4_numberOfTrailingZeros_79
          · refine lv_iinc (v := 15) (lv' := [(1, .int 15), (0, .int (ush (ush (nI (2 ^ v - 1)) 8) 4))]) hx hb dJ4_numberOfTrailingZeros_67 hl (k := 1) rfl rfl (by decide) rfl (fun ls hl => ?_)
            refine lv_iload_n hx hb dJ4_numberOfTrailingZeros_70 rfl (lv_at hl 1 rfl) ?_
            refine lv_iconst (v := 2) hx hb dJ4_numberOfTrailingZeros_71 rfl ?_
            refine fw_iushr hx hb dJ4_numberOfTrailingZeros_72 ?_
            refine lv_istore_n (lv' := [(0, .int (ush (ush (ush (nI (2 ^ v - 1)) 8) 4) 2)), (1, .int 15)]) hx hb dJ4_numberOfTrailingZeros_73 rfl hl (by decide) rfl (fun ls hl => ?_)
            refine lv_iload_n hx hb dJ4_numberOfTrailingZeros_74 rfl (lv_at hl 1 rfl) ?_
            refine lv_iload_n hx hb dJ4_numberOfTrailingZeros_75 rfl (lv_at hl 0 rfl) ?_
            refine lv_iconst (v := 1) hx hb dJ4_numberOfTrailingZeros_76 rfl ?_
            refine fw_iushr hx hb dJ4_numberOfTrailingZeros_77 ?_
            refine lv_iadd hx hb dJ4_numberOfTrailingZeros_78 ?_
            exact fr_i hx hb hr hlocks hX hC () (congrArg (fun z => some (Value.int z)) ((show ∀ v, v < 32 → (True ∧ (0 < (nI (2 ^ v - 1))) ∧ ¬ (65536 < (nI (2 ^ v - 1))) ∧ (256 < (nI (2 ^ v - 1))) ∧ (16 < (ush (nI (2 ^ v - 1)) 8)) ∧ (4 < (ush (ush (nI (2 ^ v - 1)) 8) 4))) → nI v = 15 + (ush (ush (ush (ush (nI (2 ^ v - 1)) 8) 4) 2) 1) from by decide +kernel) v hv ⟨trivial, c_1, c_2, c_3, c_7, c_9⟩)) rfl dJ4_numberOfTrailingZeros_79
    · refine lv_iinc (v := 17) (lv' := [(1, .int 17), (0, .int (nI (2 ^ v - 1)))]) hx hb dJ4_numberOfTrailingZeros_26 hl (k := 0) rfl rfl (by decide) rfl (fun ls hl => ?_)
      refine lv_iload_n hx hb dJ4_numberOfTrailingZeros_29 rfl (lv_at hl 1 rfl) ?_
      refine lv_bipush (v := 16) hx hb dJ4_numberOfTrailingZeros_30 rfl ?_
      refine fw_iushr hx hb dJ4_numberOfTrailingZeros_32 ?_
      refine lv_istore_n (lv' := [(0, .int (ush (nI (2 ^ v - 1)) 16)), (1, .int 17)]) hx hb dJ4_numberOfTrailingZeros_33 rfl hl (by decide) rfl (fun ls hl => ?_)
      refine lv_iload_n hx hb dJ4_numberOfTrailingZeros_34 rfl (lv_at hl 0 rfl) ?_
      refine lv_sipush (v := 256) hx hb dJ4_numberOfTrailingZeros_35 rfl ?_
      refine fj_le (tgt := 49) hx hb dJ4_numberOfTrailingZeros_38 (by decide) (fun c_10 => ?_) (fun c_10 => ?_)
      · refine lv_iload_n hx hb dJ4_numberOfTrailingZeros_49 rfl (lv_at hl 0 rfl) ?_
        refine lv_bipush (v := 16) hx hb dJ4_numberOfTrailingZeros_50 rfl ?_
        refine fj_le (tgt := 62) hx hb dJ4_numberOfTrailingZeros_52 (by decide) (fun c_11 => ?_) (fun c_11 => ?_)
        · refine lv_iload_n hx hb dJ4_numberOfTrailingZeros_62 rfl (lv_at hl 0 rfl) ?_
          refine lv_iconst (v := 4) hx hb dJ4_numberOfTrailingZeros_63 rfl ?_
          refine fj_le (tgt := 74) hx hb dJ4_numberOfTrailingZeros_64 (by decide) (fun c_12 => ?_) (fun c_12 => ?_)
          · refine lv_iload_n hx hb dJ4_numberOfTrailingZeros_74 rfl (lv_at hl 1 rfl) ?_
            refine lv_iload_n hx hb dJ4_numberOfTrailingZeros_75 rfl (lv_at hl 0 rfl) ?_
            refine lv_iconst (v := 1) hx hb dJ4_numberOfTrailingZeros_76 rfl ?_
            refine fw_iushr hx hb dJ4_numberOfTrailingZeros_77 ?_
            refine lv_iadd hx hb dJ4_numberOfTrailingZeros_78 ?_
            exact fr_i hx hb hr hlocks hX hC () (congrArg (fun z => some (Value.int z)) ((show ∀ v, v < 32 → (True ∧ (0 < (nI (2 ^ v - 1))) ∧ (65536 < (nI (2 ^ v - 1))) ∧ ¬ (256 < (ush (nI (2 ^ v - 1)) 16)) ∧ ¬ (16 < (ush (nI (2 ^ v - 1)) 16)) ∧ ¬ (4 < (ush (nI (2 ^ v - 1)) 16))) → nI v = 17 + (ush (ush (nI (2 ^ v - 1)) 16) 1) from by decide +kernel) v hv ⟨trivial, c_1, c_2, c_10, c_11, c_12⟩)) rfl dJ4_numberOfTrailingZeros_79
          · refine lv_iinc (v := 19) (lv' := [(1, .int 19), (0, .int (ush (nI (2 ^ v - 1)) 16))]) hx hb dJ4_numberOfTrailingZeros_67 hl (k := 1) rfl rfl (by decide) rfl (fun ls hl => ?_)
            refine lv_iload_n hx hb dJ4_numberOfTrailingZeros_70 rfl (lv_at hl 1 rfl) ?_
            refine lv_iconst (v := 2) hx hb dJ4_numberOfTrailingZeros_71 rfl ?_
            refine fw_iushr hx hb dJ4_numberOfTrailingZeros_72 ?_
            refine lv_istore_n (lv' := [(0, .int (ush (ush (nI (2 ^ v - 1)) 16) 2)), (1, .int 19)]) hx hb dJ4_numberOfTrailingZeros_73 rfl hl (by decide) rfl (fun ls hl => ?_)
            refine lv_iload_n hx hb dJ4_numberOfTrailingZeros_74 rfl (lv_at hl 1 rfl) ?_
            refine lv_iload_n hx hb dJ4_numberOfTrailingZeros_75 rfl (lv_at hl 0 rfl) ?_
            refine lv_iconst (v := 1) hx hb dJ4_numberOfTrailingZeros_76 rfl ?_
            refine fw_iushr hx hb dJ4_numberOfTrailingZeros_77 ?_
            refine lv_iadd hx hb dJ4_numberOfTrailingZeros_78 ?_
            exact fr_i hx hb hr hlocks hX hC () (congrArg (fun z => some (Value.int z)) ((show ∀ v, v < 32 → (True ∧ (0 < (nI (2 ^ v - 1))) ∧ (65536 < (nI (2 ^ v - 1))) ∧ ¬ (256 < (ush (nI (2 ^ v - 1)) 16)) ∧ ¬ (16 < (ush (nI (2 ^ v - 1)) 16)) ∧ (4 < (ush (nI (2 ^ v - 1)) 16))) → nI v = 19 + (ush (ush (ush (nI (2 ^ v - 1)) 16) 2) 1) from by decide +kernel) v hv ⟨trivial, c_1, c_2, c_10, c_11, c_12⟩)) rfl dJ4_numberOfTrailingZeros_79
        · refine lv_iinc (v := 21) (lv' := [(1, .int 21), (0, .int (ush (nI (2 ^ v - 1)) 16))]) hx hb dJ4_numberOfTrailingZeros_55 hl (k := 1) rfl rfl (by decide) rfl (fun ls hl => ?_)
          refine lv_iload_n hx hb dJ4_numberOfTrailingZeros_58 rfl (lv_at hl 1 rfl) ?_
          refine lv_iconst (v := 4) hx hb dJ4_numberOfTrailingZeros_59 rfl ?_
          refine fw_iushr hx hb dJ4_numberOfTrailingZeros_60 ?_
          refine lv_istore_n (lv' := [(0, .int (ush (ush (nI (2 ^ v - 1)) 16) 4)), (1, .int 21)]) hx hb dJ4_numberOfTrailingZeros_61 rfl hl (by decide) rfl (fun ls hl => ?_)
          refine lv_iload_n hx hb dJ4_numberOfTrailingZeros_62 rfl (lv_at hl 0 rfl) ?_
          refine lv_iconst (v := 4) hx hb dJ4_numberOfTrailingZeros_63 rfl ?_
          refine fj_le (tgt := 74) hx hb dJ4_numberOfTrailingZeros_64 (by decide) (fun c_13 => ?_) (fun c_13 => ?_)
          · refine lv_iload_n hx hb dJ4_numberOfTrailingZeros_74 rfl (lv_at hl 1 rfl) ?_
            refine lv_iload_n hx hb dJ4_numberOfTrailingZeros_75 rfl (lv_at hl 0 rfl) ?_
            refine lv_iconst (v := 1) hx hb dJ4_numberOfTrailingZeros_76 rfl ?_
            refine fw_iushr hx hb dJ4_numberOfTrailingZeros_77 ?_
            refine lv_iadd hx hb dJ4_numberOfTrailingZeros_78 ?_
            exact fr_i hx hb hr hlocks hX hC () (congrArg (fun z => some (Value.int z)) ((show ∀ v, v < 32 → (True ∧ (0 < (nI (2 ^ v - 1))) ∧ (65536 < (nI (2 ^ v - 1))) ∧ ¬ (256 < (ush (nI (2 ^ v - 1)) 16)) ∧ (16 < (ush (nI (2 ^ v - 1)) 16)) ∧ ¬ (4 < (ush (ush (nI (2 ^ v - 1)) 16) 4))) → nI v = 21 + (ush (ush (ush (nI (2 ^ v - 1)) 16) 4) 1) from by decide +kernel) v hv ⟨trivial, c_1, c_2, c_10, c_11, c_13⟩)) rfl dJ4_numberOfTrailingZeros_79
          · refine lv_iinc (v := 23) (lv' := [(1, .int 23), (0, .int (ush (ush (nI (2 ^ v - 1)) 16) 4))]) hx hb dJ4_numberOfTrailingZeros_67 hl (k := 1) rfl rfl (by decide) rfl (fun ls hl => ?_)
            refine lv_iload_n hx hb dJ4_numberOfTrailingZeros_70 rfl (lv_at hl 1 rfl) ?_
            refine lv_iconst (v := 2) hx hb dJ4_numberOfTrailingZeros_71 rfl ?_
            refine fw_iushr hx hb dJ4_numberOfTrailingZeros_72 ?_
            refine lv_istore_n (lv' := [(0, .int (ush (ush (ush (nI (2 ^ v - 1)) 16) 4) 2)), (1, .int 23)]) hx hb dJ4_numberOfTrailingZeros_73 rfl hl (by decide) rfl (fun ls hl => ?_)
            refine lv_iload_n hx hb dJ4_numberOfTrailingZeros_74 rfl (lv_at hl 1 rfl) ?_
            refine lv_iload_n hx hb dJ4_numberOfTrailingZeros_75 rfl (lv_at hl 0 rfl) ?_
            refine lv_iconst (v := 1) hx hb dJ4_numberOfTrailingZeros_76 rfl ?_
            refine fw_iushr hx hb dJ4_numberOfTrailingZeros_77 ?_
            refine lv_iadd hx hb dJ4_numberOfTrailingZeros_78 ?_
            exact fr_i hx hb hr hlocks hX hC () (congrArg (fun z => some (Value.int z)) ((show ∀ v, v < 32 → (True ∧ (0 < (nI (2 ^ v - 1))) ∧ (65536 < (nI (2 ^ v - 1))) ∧ ¬ (256 < (ush (nI (2 ^ v - 1)) 16)) ∧ (16 < (ush (nI (2 ^ v - 1)) 16)) ∧ (4 < (ush (ush (nI (2 ^ v - 1)) 16) 4))) → nI v = 23 + (ush (ush (ush (ush (nI (2 ^ v - 1)) 16) 4) 2) 1) from by decide +kernel) v hv ⟨trivial, c_1, c_2, c_10, c_11, c_13⟩)) rfl dJ4_numberOfTrailingZeros_79
      · refine lv_iinc (v := 25) (lv' := [(1, .int 25), (0, .int (ush (nI (2 ^ v - 1)) 16))]) hx hb dJ4_numberOfTrailingZeros_41 hl (k := 1) rfl rfl (by decide) rfl (fun ls hl => ?_)
        refine lv_iload_n hx hb dJ4_numberOfTrailingZeros_44 rfl (lv_at hl 1 rfl) ?_
        refine lv_bipush (v := 8) hx hb dJ4_numberOfTrailingZeros_45 rfl ?_
        refine fw_iushr hx hb dJ4_numberOfTrailingZeros_47 ?_
        refine lv_istore_n (lv' := [(0, .int (ush (ush (nI (2 ^ v - 1)) 16) 8)), (1, .int 25)]) hx hb dJ4_numberOfTrailingZeros_48 rfl hl (by decide) rfl (fun ls hl => ?_)
        refine lv_iload_n hx hb dJ4_numberOfTrailingZeros_49 rfl (lv_at hl 0 rfl) ?_
        refine lv_bipush (v := 16) hx hb dJ4_numberOfTrailingZeros_50 rfl ?_
        refine fj_le (tgt := 62) hx hb dJ4_numberOfTrailingZeros_52 (by decide) (fun c_14 => ?_) (fun c_14 => ?_)
        · refine lv_iload_n hx hb dJ4_numberOfTrailingZeros_62 rfl (lv_at hl 0 rfl) ?_
          refine lv_iconst (v := 4) hx hb dJ4_numberOfTrailingZeros_63 rfl ?_
          refine fj_le (tgt := 74) hx hb dJ4_numberOfTrailingZeros_64 (by decide) (fun c_15 => ?_) (fun c_15 => ?_)
          · refine lv_iload_n hx hb dJ4_numberOfTrailingZeros_74 rfl (lv_at hl 1 rfl) ?_
            refine lv_iload_n hx hb dJ4_numberOfTrailingZeros_75 rfl (lv_at hl 0 rfl) ?_
            refine lv_iconst (v := 1) hx hb dJ4_numberOfTrailingZeros_76 rfl ?_
            refine fw_iushr hx hb dJ4_numberOfTrailingZeros_77 ?_
            refine lv_iadd hx hb dJ4_numberOfTrailingZeros_78 ?_
            exact fr_i hx hb hr hlocks hX hC () (congrArg (fun z => some (Value.int z)) ((show ∀ v, v < 32 → (True ∧ (0 < (nI (2 ^ v - 1))) ∧ (65536 < (nI (2 ^ v - 1))) ∧ (256 < (ush (nI (2 ^ v - 1)) 16)) ∧ ¬ (16 < (ush (ush (nI (2 ^ v - 1)) 16) 8)) ∧ ¬ (4 < (ush (ush (nI (2 ^ v - 1)) 16) 8))) → nI v = 25 + (ush (ush (ush (nI (2 ^ v - 1)) 16) 8) 1) from by decide +kernel) v hv ⟨trivial, c_1, c_2, c_10, c_14, c_15⟩)) rfl dJ4_numberOfTrailingZeros_79
          · refine lv_iinc (v := 27) (lv' := [(1, .int 27), (0, .int (ush (ush (nI (2 ^ v - 1)) 16) 8))]) hx hb dJ4_numberOfTrailingZeros_67 hl (k := 1) rfl rfl (by decide) rfl (fun ls hl => ?_)
            refine lv_iload_n hx hb dJ4_numberOfTrailingZeros_70 rfl (lv_at hl 1 rfl) ?_
            refine lv_iconst (v := 2) hx hb dJ4_numberOfTrailingZeros_71 rfl ?_
            refine fw_iushr hx hb dJ4_numberOfTrailingZeros_72 ?_
            refine lv_istore_n (lv' := [(0, .int (ush (ush (ush (nI (2 ^ v - 1)) 16) 8) 2)), (1, .int 27)]) hx hb dJ4_numberOfTrailingZeros_73 rfl hl (by decide) rfl (fun ls hl => ?_)
            refine lv_iload_n hx hb dJ4_numberOfTrailingZeros_74 rfl (lv_at hl 1 rfl) ?_
            refine lv_iload_n hx hb dJ4_numberOfTrailingZeros_75 rfl (lv_at hl 0 rfl) ?_
            refine lv_iconst (v := 1) hx hb dJ4_numberOfTrailingZeros_76 rfl ?_
            refine fw_iushr hx hb dJ4_numberOfTrailingZeros_77 ?_
            refine lv_iadd hx hb dJ4_numberOfTrailingZeros_78 ?_
            exact fr_i hx hb hr hlocks hX hC () (congrArg (fun z => some (Value.int z)) ((show ∀ v, v < 32 → (True ∧ (0 < (nI (2 ^ v - 1))) ∧ (65536 < (nI (2 ^ v - 1))) ∧ (256 < (ush (nI (2 ^ v - 1)) 16)) ∧ ¬ (16 < (ush (ush (nI (2 ^ v - 1)) 16) 8)) ∧ (4 < (ush (ush (nI (2 ^ v - 1)) 16) 8))) → nI v = 27 + (ush (ush (ush (ush (nI (2 ^ v - 1)) 16) 8) 2) 1) from by decide +kernel) v hv ⟨trivial, c_1, c_2, c_10, c_14, c_15⟩)) rfl dJ4_numberOfTrailingZeros_79
        · refine lv_iinc (v := 29) (lv' := [(1, .int 29), (0, .int (ush (ush (nI (2 ^ v - 1)) 16) 8))]) hx hb dJ4_numberOfTrailingZeros_55 hl (k := 1) rfl rfl (by decide) rfl (fun ls hl => ?_)
          refine lv_iload_n hx hb dJ4_numberOfTrailingZeros_58 rfl (lv_at hl 1 rfl) ?_
          refine lv_iconst (v := 4) hx hb dJ4_numberOfTrailingZeros_59 rfl ?_
          refine fw_iushr hx hb dJ4_numberOfTrailingZeros_60 ?_
          refine lv_istore_n (lv' := [(0, .int (ush (ush (ush (nI (2 ^ v - 1)) 16) 8) 4)), (1, .int 29)]) hx hb dJ4_numberOfTrailingZeros_61 rfl hl (by decide) rfl (fun ls hl => ?_)
          refine lv_iload_n hx hb dJ4_numberOfTrailingZeros_62 rfl (lv_at hl 0 rfl) ?_
          refine lv_iconst (v := 4) hx hb dJ4_numberOfTrailingZeros_63 rfl ?_
          refine fj_le (tgt := 74) hx hb dJ4_numberOfTrailingZeros_64 (by decide) (fun c_16 => ?_) (fun c_16 => ?_)
          · refine lv_iload_n hx hb dJ4_numberOfTrailingZeros_74 rfl (lv_at hl 1 rfl) ?_
            refine lv_iload_n hx hb dJ4_numberOfTrailingZeros_75 rfl (lv_at hl 0 rfl) ?_
            refine lv_iconst (v := 1) hx hb dJ4_numberOfTrailingZeros_76 rfl ?_
            refine fw_iushr hx hb dJ4_numberOfTrailingZeros_77 ?_
            refine lv_iadd hx hb dJ4_numberOfTrailingZeros_78 ?_
            exact fr_i hx hb hr hlocks hX hC () (congrArg (fun z => some (Value.int z)) ((show ∀ v, v < 32 → (True ∧ (0 < (nI (2 ^ v - 1))) ∧ (65536 < (nI (2 ^ v - 1))) ∧ (256 < (ush (nI (2 ^ v - 1)) 16)) ∧ (16 < (ush (ush (nI (2 ^ v - 1)) 16) 8)) ∧ ¬ (4 < (ush (ush (ush (nI (2 ^ v - 1)) 16) 8) 4))) → nI v = 29 + (ush (ush (ush (ush (nI (2 ^ v - 1)) 16) 8) 4) 1) from by decide +kernel) v hv ⟨trivial, c_1, c_2, c_10, c_14, c_16⟩)) rfl dJ4_numberOfTrailingZeros_79
          · refine lv_iinc (v := 31) (lv' := [(1, .int 31), (0, .int (ush (ush (ush (nI (2 ^ v - 1)) 16) 8) 4))]) hx hb dJ4_numberOfTrailingZeros_67 hl (k := 1) rfl rfl (by decide) rfl (fun ls hl => ?_)
            refine lv_iload_n hx hb dJ4_numberOfTrailingZeros_70 rfl (lv_at hl 1 rfl) ?_
            refine lv_iconst (v := 2) hx hb dJ4_numberOfTrailingZeros_71 rfl ?_
            refine fw_iushr hx hb dJ4_numberOfTrailingZeros_72 ?_
            refine lv_istore_n (lv' := [(0, .int (ush (ush (ush (ush (nI (2 ^ v - 1)) 16) 8) 4) 2)), (1, .int 31)]) hx hb dJ4_numberOfTrailingZeros_73 rfl hl (by decide) rfl (fun ls hl => ?_)
            refine lv_iload_n hx hb dJ4_numberOfTrailingZeros_74 rfl (lv_at hl 1 rfl) ?_
            refine lv_iload_n hx hb dJ4_numberOfTrailingZeros_75 rfl (lv_at hl 0 rfl) ?_
            refine lv_iconst (v := 1) hx hb dJ4_numberOfTrailingZeros_76 rfl ?_
            refine fw_iushr hx hb dJ4_numberOfTrailingZeros_77 ?_
            refine lv_iadd hx hb dJ4_numberOfTrailingZeros_78 ?_
            exact fr_i hx hb hr hlocks hX hC () (congrArg (fun z => some (Value.int z)) ((show ∀ v, v < 32 → (True ∧ (0 < (nI (2 ^ v - 1))) ∧ (65536 < (nI (2 ^ v - 1))) ∧ (256 < (ush (nI (2 ^ v - 1)) 16)) ∧ (16 < (ush (ush (nI (2 ^ v - 1)) 16) 8)) ∧ (4 < (ush (ush (ush (nI (2 ^ v - 1)) 16) 8) 4))) → nI v = 31 + (ush (ush (ush (ush (ush (nI (2 ^ v - 1)) 16) 8) 4) 2) 1) from by decide +kernel) v hv ⟨trivial, c_1, c_2, c_10, c_14, c_16⟩)) rfl dJ4_numberOfTrailingZeros_79
  · refine lv_iload_n hx hb dJ4_numberOfTrailingZeros_12 rfl (lv_at hl 0 rfl) ?_
    refine lv_bipush (v := 32) hx hb dJ4_numberOfTrailingZeros_13 rfl ?_
    refine lv_iand hx hb dJ4_numberOfTrailingZeros_15 ?_
    exact fr_i hx hb hr hlocks hX hC () (congrArg (fun z => some (Value.int z)) ((show ∀ v, v < 32 → (True ∧ ¬ (0 < (nI (2 ^ v - 1)))) → nI v = (nI (2 ^ v - 1)) &&& 32 from by decide +kernel) v hv ⟨trivial, c_1⟩)) rfl dJ4_numberOfTrailingZeros_16
set_option maxRecDepth 100000 in
theorem m_J5_numberOfTrailingZeros {l : Launch} {F : Fam} {ct : Ct} (a v : Nat) (ha : a < 2 ^ 64) (hv : v < 60) (hb1 : a.testBit v = true) (hl1 : ∀ j, j < v → a.testBit j = false) : Cm l yJ5_numberOfTrailingZeros (ws_ yJ5_numberOfTrailingZeros cJ5_numberOfTrailingZeros 3 (some .int)) ({ frames := 1, cells := 0, slots := 0, locals := 21 }) F [.long (lN a)] (ct) (fun _ : Unit => some (.int (nI v))) (fun _ => ct) := by
  refine Cm.start (by decide) (Nat.le_of_ble_eq_true rfl) ?_
  intro p e s m below meth c hf hX hC ls hl
  obtain ⟨hx, hb, hr, hml, hown, hts, hlocks⟩ := hf
  have hl : lv_has ls 3 [(0, .long (lN a))] := hl
  have hown : s.vm.findClass "java/lang/Long" = some m.cls := hown
  refine lv_lload_n hx hb dJ5_numberOfTrailingZeros_0 rfl (lv_at hl 0 rfl) ?_
  refine lv_l2i (v := (lN a).toInt32) hx hb dJ5_numberOfTrailingZeros_1 rfl ?_
  rw [lN_i]
  refine lv_istore_n (lv' := [(2, .int (nI a)), (0, .long (lN a))]) hx hb dJ5_numberOfTrailingZeros_2 rfl hl (by decide) rfl (fun ls hl => ?_)
  by_cases h32 : v < 32
  · refine lv_iload_n hx hb dJ5_numberOfTrailingZeros_3 rfl (lv_at hl 0 rfl) ?_
    refine lv_if_ne (tgt := 21) hx hb dJ5_numberOfTrailingZeros_4 (by decide) (fun _ => ?_) (fun z_1 => absurd z_1 (low_n0 h32 hb1))
    refine lv_iload_n hx hb dJ5_numberOfTrailingZeros_21 rfl (lv_at hl 0 rfl) ?_
    refine fc_S (As := [.int (nI a)]) (rest := []) hx hb hml hown hts hX hC (m_J4_numberOfTrailingZeros (nI a) v h32 (ntz_any h32 hb1 hl1)) (lw_S q915 q916 q127 q917) hdS_J4_numberOfTrailingZeros ⟨rfl, rfl⟩ ⟨Nat.le_of_ble_eq_true rfl, Nat.le_of_ble_eq_true rfl⟩ hl.1 rfl (Nat.le_of_ble_eq_true rfl) ⟨Nat.zero_le _, Nat.zero_le _⟩ dJ5_numberOfTrailingZeros_22 (fun _ H locs hC => ?_)
    refine W.eq (g2 := F0 m 25 ls [.int (nI v)]) rfl ?_
    exact fr_i hx hb hr hlocks hX hC () rfl rfl dJ5_numberOfTrailingZeros_25
  · refine lv_iload_n hx hb dJ5_numberOfTrailingZeros_3 rfl (lv_at hl 0 rfl) ?_
    refine lv_if_ne (tgt := 21) hx hb dJ5_numberOfTrailingZeros_4 (by decide) (fun z_3 => absurd (low_0 (Nat.le_of_not_lt h32) hl1) z_3) (fun _ => ?_)
    refine lv_bipush (v := 32) hx hb dJ5_numberOfTrailingZeros_7 rfl ?_
    refine lv_lload_n hx hb dJ5_numberOfTrailingZeros_9 rfl (lv_at hl 1 rfl) ?_
    refine lv_bipush (v := 32) hx hb dJ5_numberOfTrailingZeros_10 rfl ?_
    refine lv_lushr (v := lush (lN a) 32) hx hb dJ5_numberOfTrailingZeros_12 rfl ?_
    refine lv_l2i (v := (lush (lN a) 32).toInt32) hx hb dJ5_numberOfTrailingZeros_13 rfl ?_
    rw [lush32 ha, lN_i]
    refine fc_S (As := [.int (nI (a / 2 ^ 32))]) (rest := [.int 32]) hx hb hml hown hts hX hC (m_J4_numberOfTrailingZeros (nI (a / 2 ^ 32)) (v - 32) (by omega) (ntz_any (by omega) (hi_bits (Nat.le_of_not_lt h32) hb1 hl1).1 (hi_bits (Nat.le_of_not_lt h32) hb1 hl1).2)) (lw_S q915 q916 q127 q917) hdS_J4_numberOfTrailingZeros ⟨rfl, rfl⟩ ⟨Nat.le_of_ble_eq_true rfl, Nat.le_of_ble_eq_true rfl⟩ hl.1 rfl (Nat.le_of_ble_eq_true rfl) ⟨Nat.zero_le _, Nat.zero_le _⟩ dJ5_numberOfTrailingZeros_14 (fun _ H locs hC => ?_)
    refine W.eq (g2 := F0 m 17 ls [.int (nI (v - 32)), .int 32]) rfl ?_
    refine lv_iadd hx hb dJ5_numberOfTrailingZeros_17 ?_
    refine lv_goto (tgt := 25) hx hb dJ5_numberOfTrailingZeros_18 (by decide) ?_
    exact fr_i hx hb hr hlocks hX hC () (congrArg (fun z => some (Value.int z)) (nI_32 h32)) rfl dJ5_numberOfTrailingZeros_25
set_option maxRecDepth 100000 in
theorem m_X0_ones {l : Launch} {F : Fam} {ct : Ct} (q : Nat) (hq : q < 256) : Cm l yX0_ones (ws_ yX0_ones cX0_ones 1 (some .int)) ({ frames := 1, cells := 0, slots := 0, locals := 20 }) F [.int (nI q)] (ct) (fun _ : Unit => some (.int (nI (p_pop q)))) (fun _ => ct) := by
  refine Cm.start (by decide) (Nat.le_of_ble_eq_true rfl) ?_
  intro p e s m below meth c hf hX hC ls hl
  obtain ⟨hx, hb, hr, hml, hown, hts, hlocks⟩ := hf
  have hl : lv_has ls 1 [(0, .int (nI q))] := hl
  have hown : s.vm.findClass "OwlEars" = some m.cls := hown
  refine lv_iload_n hx hb dX0_ones_0 rfl (lv_at hl 0 rfl) ?_
  refine fc_S (As := [.int (nI q)]) (rest := []) hx hb hml hown hts hX hC (m_J4_bitCount q hq) (lw_S q1277 q1278 q127 q1279) hdS_J4_bitCount ⟨rfl, rfl⟩ ⟨Nat.le_of_ble_eq_true rfl, Nat.le_of_ble_eq_true rfl⟩ hl.1 rfl (Nat.le_of_ble_eq_true rfl) ⟨Nat.zero_le _, Nat.zero_le _⟩ dX0_ones_1 (fun _ H locs hC => ?_)
  refine W.eq (g2 := F0 m 4 ls [.int (nI (p_pop q))]) rfl ?_
  exact fr_i hx hb hr hlocks hX hC () rfl rfl dX0_ones_4
set_option maxRecDepth 100000 in
theorem m_X0_leastOf {l : Launch} {G : Gc} {d kp as un to sc fd tp sh : Row} {sp : Nat → Option Nat} (P1 : Nat → Prop) [DecidablePred P1] (n : Nat) (hn : n ≤ 60) : Cm l yX0_leastOf (ws_ yX0_leastOf cX0_leastOf 3 (some .int)) ({ frames := 2, cells := 0, slots := 0, locals := 43 }) (cF G) [.ref (G.ad 5 0), .long (lN (p_set P1 n))] (cct G (pg d kp as un to sc fd tp sh) sp) (fun _ : Unit => some (.int ((p_none fd (p_fst P1 n 0)).1))) (fun _ => cct G (pg d kp as un to sc ((p_none fd (p_fst P1 n 0)).2) tp sh) sp) := by
  refine Cm.start (by decide) (Nat.le_of_ble_eq_true rfl) ?_
  intro p e s m below meth c hf hX hC ls hl
  obtain ⟨hx, hb, hr, hml, hown, hts, hlocks⟩ := hf
  have hl : lv_has ls 3 [(0, .ref (G.ad 5 0)), (1, .long (lN (p_set P1 n)))] := hl
  have hown : s.vm.findClass "OwlEars" = some m.cls := hown
  refine lv_lload_n hx hb dX0_leastOf_0 rfl (lv_at hl 1 rfl) ?_
  refine lv_lconst (v := 0) hx hb dX0_leastOf_1 rfl ?_
  refine W.lcmp hx hb dX0_leastOf_2 ?_
  refine lv_if_ne (tgt := 14) hx hb dX0_leastOf_3 (by decide) (fun c_1 => ?_) (fun c_1 => ?_)
  · obtain ⟨v, hv, hP, hlt, he⟩ := least_1 (fun z => c_1 ((set_l0 hn).mpr z))
    refine lv_lload_n hx hb dX0_leastOf_14 rfl (lv_at hl 1 rfl) ?_
    refine fc_S (As := [.long (lN (p_set P1 n))]) (rest := []) hx hb hml hown hts hX hC (m_J5_numberOfTrailingZeros (p_set P1 n) v (Nat.lt_of_lt_of_le (p_set_lt P1 n) (Nat.pow_le_pow_right (by decide) (by omega))) (by omega) (set_lo hv hP hlt).1 (set_lo hv hP hlt).2) (lw_S q912 q913 q128 q914) hdS_J5_numberOfTrailingZeros ⟨rfl, rfl⟩ ⟨Nat.le_of_ble_eq_true rfl, Nat.le_of_ble_eq_true rfl⟩ hl.1 rfl (Nat.le_of_ble_eq_true rfl) ⟨Nat.zero_le _, Nat.zero_le _⟩ dX0_leastOf_15 (fun _ H locs hC => ?_)
    refine W.eq (g2 := F0 m 18 ls [.int (nI v)]) rfl ?_
    have hs : p_none fd (p_fst P1 n 0) = ((nI v, fd) : Int32 × Row) := by rw [he, p_none, if_neg (nI_nm1 (by omega))]
    exact fr_i hx hb hr hlocks hX hC () (congrArg (fun z => some (Value.int z)) (t2_1 hs)) (congrArg (fun z => cct G (pg d kp as un to sc z tp sh) sp) (t2_2 hs)).symm dX0_leastOf_18
  · refine lv_aload_n hx hb dX0_leastOf_6 rfl (lv_at hl 0 rfl) ?_
    refine lv_iconst (v := 3) hx hb dX0_leastOf_7 rfl ?_
    refine fc_V (As := [.int 3]) (rest := []) hx hb hml hown hts hX hC (m_X0_finding 3 (vin_b rfl)) (lw_V q472 q474 qs2 q108 q475) hdV_X0_finding ⟨rfl, rfl⟩ ⟨Nat.le_of_ble_eq_true rfl, Nat.le_of_ble_eq_true rfl⟩ (fx_recv (g := 5) (i := 0) (ci := 1) (q := (RX0, TX0, 13)) hX hC (cin rfl) rfl rfl) hl.1 rfl (Nat.le_of_ble_eq_true rfl) ⟨Nat.zero_le _, Nat.zero_le _⟩ dX0_leastOf_8 (fun _ H locs hC => ?_)
    refine W.eq (g2 := F0 m 11 ls [.int (-1000004)]) rfl ?_
    refine lv_goto (tgt := 18) hx hb dX0_leastOf_11 (by decide) ?_
    have hs : p_none fd (p_fst P1 n 0) = (((-1000004), p_find fd 3) : Int32 × Row) := by rw [least_0 ((set_l0 hn).mp c_1)]; rfl
    exact fr_i hx hb hr hlocks hX hC () (congrArg (fun z => some (Value.int z)) (t2_1 hs)) (congrArg (fun z => cct G (pg d kp as un to sc z tp sh) sp) (t2_2 hs)).symm dX0_leastOf_18
set_option maxRecDepth 100000 in
theorem m_X0_aim {l : Launch} {G : Gc} {d kp as un to sc fd tp sh : Row} {sp : Nat → Option Nat} (hw : WF d) (k : Int32) : Cm l yX0_aim (ws_ yX0_aim cX0_aim 2 (some .int)) ({ frames := 11, cells := 0, slots := 0, locals := 373 }) (cF G) [.ref (G.ad 5 0), .int k] (cct G (pg d kp as un to sc fd tp sh) sp) (fun u : Row => some (.int ((s_aim d fd k).1))) (fun u => cct G (pg d kp u un to sc ((s_aim d fd k).2) tp sh) sp) := by
  refine Cm.start (by decide) (Nat.le_of_ble_eq_true rfl) ?_
  intro p e s m below meth c hf hX hC ls hl
  obtain ⟨hx, hb, hr, hml, hown, hts, hlocks⟩ := hf
  have hl : lv_has ls 2 [(0, .ref (G.ad 5 0)), (1, .int k)] := hl
  have hown : s.vm.findClass "OwlEars" = some m.cls := hown
  refine lv_aload_n hx hb dX0_aim_0 rfl (lv_at hl 0 rfl) ?_
  refine lv_iload_n hx hb dX0_aim_1 rfl (lv_at hl 1 rfl) ?_
  refine fc_V (As := [.int k]) (rest := []) hx hb hml hown hts hX hC (m_X0_isStrike k) (lw_V q538 q540 qs4 q108 q541) hdV_X0_isStrike ⟨rfl, rfl⟩ ⟨Nat.le_of_ble_eq_true rfl, Nat.le_of_ble_eq_true rfl⟩ (fx_recv (g := 5) (i := 0) (ci := 1) (q := (RX0, TX0, 13)) hX hC (cin rfl) rfl rfl) hl.1 rfl (Nat.le_of_ble_eq_true rfl) ⟨Nat.zero_le _, Nat.zero_le _⟩ dX0_aim_2 (fun _ H locs hC => ?_)
  refine W.eq (g2 := F0 m 5 ls [.int (b2i (p_in k 0 (d 1 - 1)))]) rfl ?_
  refine fb_eq (tgt := 23) hx hb dX0_aim_5 (by decide) (fun c_2 => ?_) (fun c_2 => ?_)
  · refine lv_aload_n hx hb dX0_aim_23 rfl (lv_at hl 0 rfl) ?_
    refine lv_iconst (v := 0) hx hb dX0_aim_24 rfl ?_
    refine fc_V (As := [.int 0]) (rest := []) hx hb hml hown hts hX hC (m_X0_finding 0 (vin_b rfl)) (lw_V q472 q474 qs2 q108 q475) hdV_X0_finding ⟨rfl, rfl⟩ ⟨Nat.le_of_ble_eq_true rfl, Nat.le_of_ble_eq_true rfl⟩ (fx_recv (g := 5) (i := 0) (ci := 1) (q := (RX0, TX0, 13)) hX hC (cin rfl) rfl rfl) hl.1 rfl (Nat.le_of_ble_eq_true rfl) ⟨Nat.zero_le _, Nat.zero_le _⟩ dX0_aim_25 (fun _ H locs hC => ?_)
    refine W.eq (g2 := F0 m 28 ls [.int (-1000001)]) rfl ?_
    have hs : s_aim d fd k = (((-1000001), p_find fd 0) : Int32 × Row) := by rw [s_aim, if_neg c_2]
    exact fr_i hx hb hr hlocks hX hC as (congrArg (fun z => some (Value.int z)) (t2_1 hs)) (congrArg (fun z => cct G (pg d kp as un to sc z tp sh) sp) (t2_2 hs)).symm dX0_aim_28
  · refine lv_aload_n hx hb dX0_aim_8 rfl (lv_at hl 0 rfl) ?_
    refine lv_aload_n hx hb dX0_aim_9 rfl (lv_at hl 0 rfl) ?_
    refine lv_iload_n hx hb dX0_aim_10 rfl (lv_at hl 1 rfl) ?_
    refine lv_iconst (v := 1) hx hb dX0_aim_11 rfl ?_
    refine lv_bipush (v := 36) hx hb dX0_aim_12 rfl ?_
    refine fc_V (As := [.int k, .int 1, .int 36]) (rest := [.ref (G.ad 5 0)]) hx hb hml hown hts hX hC (m_X0_allThatHave_1 hw k (kin_of hw c_2)) (lw_V q904 q906 qs21 q108 q907) hdV_X0_allThatHave ⟨rfl, rfl⟩ ⟨Nat.le_of_ble_eq_true rfl, Nat.le_of_ble_eq_true rfl⟩ (fx_recv (g := 5) (i := 0) (ci := 1) (q := (RX0, TX0, 13)) hX hC (cin rfl) rfl rfl) hl.1 rfl (Nat.le_of_ble_eq_true rfl) ⟨Nat.zero_le _, Nat.zero_le _⟩ dX0_aim_14 (fun u_4 H locs hC => ?_)
    refine W.eq (g2 := F0 m 17 ls [.long (p_all d k (93 + 4 * ix k) 36), .ref (G.ad 5 0)]) rfl ?_
    rw [show p_all d k (93 + 4 * ix k) 36 = lN (p_set (p_hasAt d k (93 + 4 * ix k)) 36) from p_orl_set _ _ (by decide)]
    refine fc_V (As := [.long (lN (p_set (p_hasAt d k (93 + 4 * ix k)) 36))]) (rest := []) hx hb hml hown hts hX hC (m_X0_leastOf (p_hasAt d k (93 + 4 * ix k)) 36 (by decide)) (lw_V q908 q910 qs22 q108 q911) hdV_X0_leastOf ⟨rfl, rfl⟩ ⟨Nat.le_of_ble_eq_true rfl, Nat.le_of_ble_eq_true rfl⟩ (fx_recv (g := 5) (i := 0) (ci := 1) (q := (RX0, TX0, 13)) hX hC (cin rfl) rfl rfl) hl.1 rfl (Nat.le_of_ble_eq_true rfl) ⟨Nat.zero_le _, Nat.zero_le _⟩ dX0_aim_17 (fun _ H locs hC => ?_)
    refine W.eq (g2 := F0 m 20 ls [.int ((p_none fd (p_fst (p_hasAt d k (93 + 4 * ix k)) 36 0)).1)]) rfl ?_
    refine lv_goto (tgt := 28) hx hb dX0_aim_20 (by decide) ?_
    have hs : s_aim d fd k = (((p_none fd (p_fst (p_hasAt d k (93 + 4 * ix k)) 36 0)).1, (p_none fd (p_fst (p_hasAt d k (93 + 4 * ix k)) 36 0)).2) : Int32 × Row) := by rw [s_aim, if_pos c_2]
    exact fr_i hx hb hr hlocks hX hC u_4 (congrArg (fun z => some (Value.int z)) (t2_1 hs)) (congrArg (fun z => cct G (pg d kp u_4 un to sc z tp sh) sp) (t2_2 hs)).symm dX0_aim_28
set_option maxRecDepth 100000 in
theorem m_X0_waitFor {l : Launch} {G : Gc} {d kp as un to sc fd tp sh : Row} {sp : Nat → Option Nat} (hw : WF d) (k : Int32) : Cm l yX0_waitFor (ws_ yX0_waitFor cX0_waitFor 2 (some .int)) ({ frames := 11, cells := 0, slots := 0, locals := 373 }) (cF G) [.ref (G.ad 5 0), .int k] (cct G (pg d kp as un to sc fd tp sh) sp) (fun u : Row => some (.int ((s_wait d fd k).1))) (fun u => cct G (pg d kp u un to sc ((s_wait d fd k).2) tp sh) sp) := by
  refine Cm.start (by decide) (Nat.le_of_ble_eq_true rfl) ?_
  intro p e s m below meth c hf hX hC ls hl
  obtain ⟨hx, hb, hr, hml, hown, hts, hlocks⟩ := hf
  have hl : lv_has ls 2 [(0, .ref (G.ad 5 0)), (1, .int k)] := hl
  have hown : s.vm.findClass "OwlEars" = some m.cls := hown
  refine lv_aload_n hx hb dX0_waitFor_0 rfl (lv_at hl 0 rfl) ?_
  refine lv_iload_n hx hb dX0_waitFor_1 rfl (lv_at hl 1 rfl) ?_
  refine fc_V (As := [.int k]) (rest := []) hx hb hml hown hts hX hC (m_X0_isStrike k) (lw_V q538 q540 qs4 q108 q541) hdV_X0_isStrike ⟨rfl, rfl⟩ ⟨Nat.le_of_ble_eq_true rfl, Nat.le_of_ble_eq_true rfl⟩ (fx_recv (g := 5) (i := 0) (ci := 1) (q := (RX0, TX0, 13)) hX hC (cin rfl) rfl rfl) hl.1 rfl (Nat.le_of_ble_eq_true rfl) ⟨Nat.zero_le _, Nat.zero_le _⟩ dX0_waitFor_2 (fun _ H locs hC => ?_)
  refine W.eq (g2 := F0 m 5 ls [.int (b2i (p_in k 0 (d 1 - 1)))]) rfl ?_
  refine fb_eq (tgt := 23) hx hb dX0_waitFor_5 (by decide) (fun c_2 => ?_) (fun c_2 => ?_)
  · refine lv_aload_n hx hb dX0_waitFor_23 rfl (lv_at hl 0 rfl) ?_
    refine lv_iconst (v := 0) hx hb dX0_waitFor_24 rfl ?_
    refine fc_V (As := [.int 0]) (rest := []) hx hb hml hown hts hX hC (m_X0_finding 0 (vin_b rfl)) (lw_V q472 q474 qs2 q108 q475) hdV_X0_finding ⟨rfl, rfl⟩ ⟨Nat.le_of_ble_eq_true rfl, Nat.le_of_ble_eq_true rfl⟩ (fx_recv (g := 5) (i := 0) (ci := 1) (q := (RX0, TX0, 13)) hX hC (cin rfl) rfl rfl) hl.1 rfl (Nat.le_of_ble_eq_true rfl) ⟨Nat.zero_le _, Nat.zero_le _⟩ dX0_waitFor_25 (fun _ H locs hC => ?_)
    refine W.eq (g2 := F0 m 28 ls [.int (-1000001)]) rfl ?_
    have hs : s_wait d fd k = (((-1000001), p_find fd 0) : Int32 × Row) := by rw [s_wait, if_neg c_2]
    exact fr_i hx hb hr hlocks hX hC as (congrArg (fun z => some (Value.int z)) (t2_1 hs)) (congrArg (fun z => cct G (pg d kp as un to sc z tp sh) sp) (t2_2 hs)).symm dX0_waitFor_28
  · refine lv_aload_n hx hb dX0_waitFor_8 rfl (lv_at hl 0 rfl) ?_
    refine lv_aload_n hx hb dX0_waitFor_9 rfl (lv_at hl 0 rfl) ?_
    refine lv_iload_n hx hb dX0_waitFor_10 rfl (lv_at hl 1 rfl) ?_
    refine lv_iconst (v := 2) hx hb dX0_waitFor_11 rfl ?_
    refine lv_bipush (v := 10) hx hb dX0_waitFor_12 rfl ?_
    refine fc_V (As := [.int k, .int 2, .int 10]) (rest := [.ref (G.ad 5 0)]) hx hb hml hown hts hX hC (m_X0_allThatHave_2 hw k (kin_of hw c_2)) (lw_V q904 q906 qs21 q108 q907) hdV_X0_allThatHave ⟨rfl, rfl⟩ ⟨Nat.le_of_ble_eq_true rfl, Nat.le_of_ble_eq_true rfl⟩ (fx_recv (g := 5) (i := 0) (ci := 1) (q := (RX0, TX0, 13)) hX hC (cin rfl) rfl rfl) hl.1 rfl (Nat.le_of_ble_eq_true rfl) ⟨Nat.zero_le _, Nat.zero_le _⟩ dX0_waitFor_14 (fun u_4 H locs hC => ?_)
    refine W.eq (g2 := F0 m 17 ls [.long (p_all d k (94 + 4 * ix k) 10), .ref (G.ad 5 0)]) rfl ?_
    rw [show p_all d k (94 + 4 * ix k) 10 = lN (p_set (p_hasAt d k (94 + 4 * ix k)) 10) from p_orl_set _ _ (by decide)]
    refine fc_V (As := [.long (lN (p_set (p_hasAt d k (94 + 4 * ix k)) 10))]) (rest := []) hx hb hml hown hts hX hC (m_X0_leastOf (p_hasAt d k (94 + 4 * ix k)) 10 (by decide)) (lw_V q908 q910 qs22 q108 q911) hdV_X0_leastOf ⟨rfl, rfl⟩ ⟨Nat.le_of_ble_eq_true rfl, Nat.le_of_ble_eq_true rfl⟩ (fx_recv (g := 5) (i := 0) (ci := 1) (q := (RX0, TX0, 13)) hX hC (cin rfl) rfl rfl) hl.1 rfl (Nat.le_of_ble_eq_true rfl) ⟨Nat.zero_le _, Nat.zero_le _⟩ dX0_waitFor_17 (fun _ H locs hC => ?_)
    refine W.eq (g2 := F0 m 20 ls [.int ((p_none fd (p_fst (p_hasAt d k (94 + 4 * ix k)) 10 0)).1)]) rfl ?_
    refine lv_goto (tgt := 28) hx hb dX0_waitFor_20 (by decide) ?_
    have hs : s_wait d fd k = (((p_none fd (p_fst (p_hasAt d k (94 + 4 * ix k)) 10 0)).1, (p_none fd (p_fst (p_hasAt d k (94 + 4 * ix k)) 10 0)).2) : Int32 × Row) := by rw [s_wait, if_pos c_2]
    exact fr_i hx hb hr hlocks hX hC u_4 (congrArg (fun z => some (Value.int z)) (t2_1 hs)) (congrArg (fun z => cct G (pg d kp u_4 un to sc z tp sh) sp) (t2_2 hs)).symm dX0_waitFor_28
set_option maxRecDepth 100000 in
theorem m_X0_rustles {l : Launch} {G : Gc} {d kp as un to sc fd tp sh : Row} {sp : Nat → Option Nat} (hw : WF d) (n : Int32) : Cm l yX0_rustles (ws_ yX0_rustles cX0_rustles 5 (some .int)) ({ frames := 4, cells := 0, slots := 0, locals := 81 }) (cF G) [.ref (G.ad 5 0), .int n] (cct G (pg d kp as un to sc fd tp sh) sp) (fun _ : Unit => some (.int ((p_lv d (ix n)).1))) (fun _ => cct G (pg ((p_lv d (ix n)).2) kp as un to sc fd tp sh) sp) := by
  refine Cm.start (by decide) (Nat.le_of_ble_eq_true rfl) ?_
  intro p e s m below meth c hf hX hC ls hl
  obtain ⟨hx, hb, hr, hml, hown, hts, hlocks⟩ := hf
  have hl : lv_has ls 5 [(0, .ref (G.ad 5 0)), (1, .int n)] := hl
  have hown : s.vm.findClass "OwlEars" = some m.cls := hown
  refine lv_iconst (v := 0) hx hb dX0_rustles_0 rfl ?_
  refine lv_istore_n (lv' := [(2, .int 0), (0, .ref (G.ad 5 0)), (1, .int n)]) hx hb dX0_rustles_1 rfl hl (by decide) rfl (fun ls hl => ?_)
  refine lv_iconst (v := 0) hx hb dX0_rustles_2 rfl ?_
  refine lv_istore_n (lv' := [(3, .int 0), (2, .int 0), (0, .ref (G.ad 5 0)), (1, .int n)]) hx hb dX0_rustles_3 rfl hl (by decide) rfl (fun ls hl => ?_)
  have L_1 : ∀ (k1 i1 : Nat), i1 + k1 = ix n → ∀ (H : Heap) (locs : List Loc), fC (cF G) (cct G (pg ((p_lv d i1).2) kp as un to sc fd tp sh) sp) s.heap H locs → ∀ ls : Array Slot, lv_has ls 5 [(0, .ref (G.ad 5 0)), (1, .int n), (2, .int ((p_lv d i1).1)), (3, .int (nI i1))] → WG p l e ({ frames := 4, cells := 0, slots := 0, locals := 81 }) s m (([.ref (G.ad 5 0), .int n] : List Value).toArray) below meth c H locs (cF G) (fun _ : Unit => some (.int ((p_lv d (ix n)).1))) (fun _ => cct G (pg ((p_lv d (ix n)).2) kp as un to sc fd tp sh) sp) (F0 m 4 ls []) := by
    intro k1
    induction k1 with
    | zero =>
      intro i1 hi1 H locs hC ls hl
      obtain rfl : i1 = ix n := by omega
      refine lv_iload_n hx hb dX0_rustles_4 rfl (lv_at hl 3 rfl) ?_
      refine lv_iload_n hx hb dX0_rustles_5 rfl (lv_at hl 1 rfl) ?_
      refine fj_ge (tgt := 72) hx hb dX0_rustles_6 (by decide) (fun _ => ?_) (fun z_2 => absurd z_2 (nlt_ix (n := n)))
      refine lv_iload_n hx hb dX0_rustles_72 rfl (lv_at hl 2 rfl) ?_
      exact fr_i hx hb hr hlocks hX hC () rfl rfl dX0_rustles_73
    | succ k1 ih1 =>
      intro i1 hi1 H locs hC ls hl
      have hz1 : i1 < 2147483648 := by have := ix_lt n; omega
      refine lv_iload_n hx hb dX0_rustles_4 rfl (lv_at hl 3 rfl) ?_
      refine lv_iload_n hx hb dX0_rustles_5 rfl (lv_at hl 1 rfl) ?_
      refine fj_ge (tgt := 72) hx hb dX0_rustles_6 (by decide) (fun z_3 => absurd (lt_ix (n := n) (show i1 < ix n by omega)) z_3) (fun _ => ?_)
      refine lv_aload_n hx hb dX0_rustles_9 rfl (lv_at hl 0 rfl) ?_
      refine fg_get (C := RX0) (T := TX0) (N := 13) (ci := 1) (g := 5) (i := 0) (v := .ref (G.ad 0 0)) hx hb hown hts hX hC in_X0 rfl (cin rfl) rfl 3 (by decide) q425 (fun _ h => h) rfl dX0_rustles_10 ?_
      refine fc_V (As := []) (rest := []) hx hb hml hown hts hX hC (m_X4_draw) (lw_V q1034 q1035 q1036 q115 q1037) hdV_X4_draw ⟨rfl, rfl⟩ ⟨Nat.le_of_ble_eq_true rfl, Nat.le_of_ble_eq_true rfl⟩ (fx_recv (g := 0) (i := 0) (ci := 0) (q := (RX4, TX4, 9)) hX hC (cin rfl) rfl rfl) hl.1 rfl (Nat.le_of_ble_eq_true rfl) ⟨Nat.zero_le _, Nat.zero_le _⟩ dX0_rustles_13 (fun _ H locs hC => ?_)
      refine W.eq (g2 := F0 m 16 ls [.int (ush (p_z (((p_lv d i1).2) 2)) 8)]) rfl ?_
      refine lv_bipush (v := 36) hx hb dX0_rustles_16 rfl ?_
      refine fw_irem hx hb dX0_rustles_18 (by decide) ?_
      refine lv_istore (lv' := [(4, .int (rm (ush (p_z (((p_lv d i1).2) 2)) 8) 36)), (0, .ref (G.ad 5 0)), (1, .int n), (2, .int ((p_lv d i1).1)), (3, .int (nI i1))]) hx hb dX0_rustles_19 hl (by decide) rfl (fun ls hl => ?_)
      refine lv_aload_n hx hb dX0_rustles_21 rfl (lv_at hl 1 rfl) ?_
      refine fg_get (C := RX0) (T := TX0) (N := 13) (ci := 1) (g := 5) (i := 0) (v := .ref (G.ad 0 0)) hx hb hown hts hX hC in_X0 rfl (cin rfl) rfl 3 (by decide) q425 (fun _ h => h) rfl dX0_rustles_22 ?_
      refine fg_getN (C := RX4) (T := TX4) (N := 9) (ci := 0) (g := 0) (i := 0) (v := .ref (G.ad 0 2)) hx hb hown hts hX hC in_X4 rfl (cin rfl) rfl 1 (by decide) (hX.2.2.1.F q243) (fun _ h => h) rfl dX0_rustles_25 ?_
      refine lv_iload hx hb dX0_rustles_28 (lv_at hl 0 rfl) ?_
      refine lv_aload_n hx hb dX0_rustles_30 rfl (lv_at hl 1 rfl) ?_
      refine fg_get (C := RX0) (T := TX0) (N := 13) (ci := 1) (g := 5) (i := 0) (v := .ref (G.ad 0 0)) hx hb hown hts hX hC in_X0 rfl (cin rfl) rfl 3 (by decide) q425 (fun _ h => h) rfl dX0_rustles_31 ?_
      refine fc_V (As := []) (rest := [.int (rm (ush (p_z (((p_lv d i1).2) 2)) 8) 36), .ref (G.ad 0 2)]) hx hb hml hown hts hX hC (m_X4_draw) (lw_V q1034 q1035 q1036 q115 q1037) hdV_X4_draw ⟨rfl, rfl⟩ ⟨Nat.le_of_ble_eq_true rfl, Nat.le_of_ble_eq_true rfl⟩ (fx_recv (g := 0) (i := 0) (ci := 0) (q := (RX4, TX4, 9)) hX hC (cin rfl) rfl rfl) hl.1 rfl (Nat.le_of_ble_eq_true rfl) ⟨Nat.zero_le _, Nat.zero_le _⟩ dX0_rustles_34 (fun _ H locs hC => ?_)
      refine W.eq (g2 := F0 m 37 ls [.int (ush (p_z ((upd ((p_lv d i1).2) 2 (p_z (((p_lv d i1).2) 2))) 2)) 8), .int (rm (ush (p_z (((p_lv d i1).2) 2)) 8) 36), .ref (G.ad 0 2)]) rfl ?_
      refine lv_bipush (v := 50) hx hb dX0_rustles_37 rfl ?_
      refine fw_irem hx hb dX0_rustles_39 (by decide) ?_
      refine fg_iast (g := 0) (i := 2) (t0 := 0) hx hb hX hC (cin rfl) rfl rfl (draw_in (p_z (((p_lv d i1).2) 2)) (n := 36) (by decide) (by decide)) (cct G (pg (upd (upd (upd ((p_lv d i1).2) 2 (p_z (((p_lv d i1).2) 2))) 2 (p_z ((upd ((p_lv d i1).2) 2 (p_z (((p_lv d i1).2) 2))) 2))) (56 + ix (rm (ush (p_z (((p_lv d i1).2) 2)) 8) 36)) (rm (ush (p_z ((upd ((p_lv d i1).2) 2 (p_z (((p_lv d i1).2) 2))) 2)) 8) 50)) kp as un to sc fd tp sh) sp) (cs_noise (k := ix (rm (ush (p_z (((p_lv d i1).2) 2)) 8) 36)) (vin_lt (draw_in (p_z (((p_lv d i1).2) 2)) (n := 36) (by decide) (by decide)))) dX0_rustles_40 (fun H locs hC => ?_)
      refine lv_iload_n hx hb dX0_rustles_41 rfl (lv_at hl 3 rfl) ?_
      refine lv_aload_n hx hb dX0_rustles_42 rfl (lv_at hl 1 rfl) ?_
      refine fg_get (C := RX0) (T := TX0) (N := 13) (ci := 1) (g := 5) (i := 0) (v := .ref (G.ad 0 0)) hx hb hown hts hX hC in_X0 rfl (cin rfl) rfl 3 (by decide) q425 (fun _ h => h) rfl dX0_rustles_43 ?_
      refine fc_V (As := []) (rest := [.int ((p_lv d i1).1)]) hx hb hml hown hts hX hC (m_X4_hears (hw.lv i1).leaf) (lw_V q806 q807 q808 q115 q809) hdV_X4_hears ⟨rfl, rfl⟩ ⟨Nat.le_of_ble_eq_true rfl, Nat.le_of_ble_eq_true rfl⟩ (fx_recv (g := 0) (i := 0) (ci := 0) (q := (RX4, TX4, 9)) hX hC (cin rfl) rfl rfl) hl.1 rfl (Nat.le_of_ble_eq_true rfl) ⟨Nat.zero_le _, Nat.zero_le _⟩ dX0_rustles_46 (fun _ H locs hC => ?_)
      refine W.eq (g2 := F0 m 49 ls [.int (b2i (p_hears (upd (upd (upd ((p_lv d i1).2) 2 (p_z (((p_lv d i1).2) 2))) 2 (p_z ((upd ((p_lv d i1).2) 2 (p_z (((p_lv d i1).2) 2))) 2))) (56 + ix (rm (ush (p_z (((p_lv d i1).2) 2)) 8) 36)) (rm (ush (p_z ((upd ((p_lv d i1).2) 2 (p_z (((p_lv d i1).2) 2))) 2)) 8) 50)))), .int ((p_lv d i1).1)]) rfl ?_
      refine fw_joinb (C := p_hears (upd (upd (upd ((p_lv d i1).2) 2 (p_z (((p_lv d i1).2) 2))) 2 (p_z ((upd ((p_lv d i1).2) 2 (p_z (((p_lv d i1).2) 2))) 2))) (56 + ix (rm (ush (p_z (((p_lv d i1).2) 2)) 8) 36)) (rm (ush (p_z ((upd ((p_lv d i1).2) 2 (p_z (((p_lv d i1).2) 2))) 2)) 8) 50))) (pcj := 57) (ls := ls) (rest := [.int ((p_lv d i1).1)]) (fun ja jb => ?_) ?_
      · refine fb_eq (tgt := 56) hx hb dX0_rustles_49 (by decide) (fun c_7 => ?_) (fun c_7 => ?_)
        · refine lv_iconst (v := 0) hx hb dX0_rustles_56 rfl ?_
          exact jb c_7
        · refine lv_iconst (v := 1) hx hb dX0_rustles_52 rfl ?_
          refine lv_goto (tgt := 57) hx hb dX0_rustles_53 (by decide) ?_
          exact ja c_7
      refine lv_iadd hx hb dX0_rustles_57 ?_
      refine lv_istore_n (lv' := [(2, .int (((p_lv d i1).1) + (b2i (p_hears (upd (upd (upd ((p_lv d i1).2) 2 (p_z (((p_lv d i1).2) 2))) 2 (p_z ((upd ((p_lv d i1).2) 2 (p_z (((p_lv d i1).2) 2))) 2))) (56 + ix (rm (ush (p_z (((p_lv d i1).2) 2)) 8) 36)) (rm (ush (p_z ((upd ((p_lv d i1).2) 2 (p_z (((p_lv d i1).2) 2))) 2)) 8) 50)))))), (4, .int (rm (ush (p_z (((p_lv d i1).2) 2)) 8) 36)), (0, .ref (G.ad 5 0)), (1, .int n), (3, .int (nI i1))]) hx hb dX0_rustles_58 rfl hl (by decide) rfl (fun ls hl => ?_)
      refine lv_aload_n hx hb dX0_rustles_59 rfl (lv_at hl 2 rfl) ?_
      refine fg_get (C := RX0) (T := TX0) (N := 13) (ci := 1) (g := 5) (i := 0) (v := .ref (G.ad 0 0)) hx hb hown hts hX hC in_X0 rfl (cin rfl) rfl 3 (by decide) q425 (fun _ h => h) rfl dX0_rustles_60 ?_
      refine fc_V (As := []) (rest := []) hx hb hml hown hts hX hC (m_X4_passes (hw.lv i1).leaf) (lw_V q714 q715 q716 q115 q717) hdV_X4_passes ⟨rfl, rfl⟩ ⟨Nat.le_of_ble_eq_true rfl, Nat.le_of_ble_eq_true rfl⟩ (fx_recv (g := 0) (i := 0) (ci := 0) (q := (RX4, TX4, 9)) hX hC (cin rfl) rfl rfl) hl.1 rfl (Nat.le_of_ble_eq_true rfl) ⟨Nat.zero_le _, Nat.zero_le _⟩ dX0_rustles_63 (fun _ H locs hC => ?_)
      refine W.eq (g2 := F0 m 66 ls []) rfl ?_
      refine lv_iinc (v := nI (i1 + 1)) (lv' := [(3, .int (nI (i1 + 1))), (2, .int (((p_lv d i1).1) + (b2i (p_hears (upd (upd (upd ((p_lv d i1).2) 2 (p_z (((p_lv d i1).2) 2))) 2 (p_z ((upd ((p_lv d i1).2) 2 (p_z (((p_lv d i1).2) 2))) 2))) (56 + ix (rm (ush (p_z (((p_lv d i1).2) 2)) 8) 36)) (rm (ush (p_z ((upd ((p_lv d i1).2) 2 (p_z (((p_lv d i1).2) 2))) 2)) 8) 50)))))), (4, .int (rm (ush (p_z (((p_lv d i1).2) 2)) 8) 36)), (0, .ref (G.ad 5 0)), (1, .int n)]) hx hb dX0_rustles_66 hl (k := 4) rfl (nI_1 _) (by decide) rfl (fun ls hl => ?_)
      refine lv_goto (tgt := 4) hx hb dX0_rustles_69 (by decide) ?_
      exact ih1 (i1 + 1) (by omega) _ _ hC ls (lv_sub hl [3, 4, 1, 0] rfl)
  exact L_1 (ix n) 0 (by omega) _ _ hC ls (lv_sub hl [2, 3, 1, 0] rfl)
set_option maxRecDepth 100000 in
theorem m_X0_leaves {l : Launch} {G : Gc} {d kp as un to sc fd tp sh : Row} {sp : Nat → Option Nat} (hw : WF d) (n : Int32) : Cm l yX0_leaves (ws_ yX0_leaves cX0_leaves 2 (some .int)) ({ frames := 5, cells := 0, slots := 0, locals := 105 }) (cF G) [.ref (G.ad 5 0), .int n] (cct G (pg d kp as un to sc fd tp sh) sp) (fun _ : Unit => some (.int ((s_leaves d fd n).1))) (fun _ => cct G (pg ((s_leaves d fd n).2.1) kp as un to sc ((s_leaves d fd n).2.2) tp sh) sp) := by
  refine Cm.start (by decide) (Nat.le_of_ble_eq_true rfl) ?_
  intro p e s m below meth c hf hX hC ls hl
  obtain ⟨hx, hb, hr, hml, hown, hts, hlocks⟩ := hf
  have hl : lv_has ls 2 [(0, .ref (G.ad 5 0)), (1, .int n)] := hl
  have hown : s.vm.findClass "OwlEars" = some m.cls := hown
  refine lv_iload_n hx hb dX0_leaves_0 rfl (lv_at hl 1 rfl) ?_
  refine lv_iconst (v := 1) hx hb dX0_leaves_1 rfl ?_
  refine lv_bipush (v := 20) hx hb dX0_leaves_2 rfl ?_
  refine fc_S (As := [.int n, .int 1, .int 20]) (rest := []) hx hb hml hown hts hX hC (m_X0_in n 1 20) (lw_S q469 q470 q108 q471) hdS_X0_in ⟨rfl, rfl⟩ ⟨Nat.le_of_ble_eq_true rfl, Nat.le_of_ble_eq_true rfl⟩ hl.1 rfl (Nat.le_of_ble_eq_true rfl) ⟨Nat.zero_le _, Nat.zero_le _⟩ dX0_leaves_4 (fun _ H locs hC => ?_)
  refine W.eq (g2 := F0 m 7 ls [.int (b2i (p_in n 1 20))]) rfl ?_
  refine fb_ne (tgt := 16) hx hb dX0_leaves_7 (by decide) (fun c_2 => ?_) (fun c_2 => ?_)
  · refine lv_aload_n hx hb dX0_leaves_16 rfl (lv_at hl 0 rfl) ?_
    refine fg_get (C := RX0) (T := TX0) (N := 13) (ci := 1) (g := 5) (i := 0) (v := .ref (G.ad 0 0)) hx hb hown hts hX hC in_X0 rfl (cin rfl) rfl 3 (by decide) q425 (fun _ h => h) rfl dX0_leaves_17 ?_
    refine lv_iload_n hx hb dX0_leaves_20 rfl (lv_at hl 1 rfl) ?_
    refine fc_V (As := [.int n]) (rest := []) hx hb hml hown hts hX hC (m_X4_isLate n) (lw_V q782 q783 q784 q115 q785) hdV_X4_isLate ⟨rfl, rfl⟩ ⟨Nat.le_of_ble_eq_true rfl, Nat.le_of_ble_eq_true rfl⟩ (fx_recv (g := 0) (i := 0) (ci := 0) (q := (RX4, TX4, 9)) hX hC (cin rfl) rfl rfl) hl.1 rfl (Nat.le_of_ble_eq_true rfl) ⟨Nat.zero_le _, Nat.zero_le _⟩ dX0_leaves_21 (fun _ H locs hC => ?_)
    refine W.eq (g2 := F0 m 24 ls [.int (b2i (99999 < d 0 + n))]) rfl ?_
    refine fb_eq (tgt := 35) hx hb dX0_leaves_24 (by decide) (fun c_4 => ?_) (fun c_4 => ?_)
    · refine lv_aload_n hx hb dX0_leaves_35 rfl (lv_at hl 0 rfl) ?_
      refine lv_iload_n hx hb dX0_leaves_36 rfl (lv_at hl 1 rfl) ?_
      refine fc_V (As := [.int n]) (rest := []) hx hb hml hown hts hX hC (m_X0_rustles hw n) (lw_V q1030 q1032 qs35 q108 q1033) hdV_X0_rustles ⟨rfl, rfl⟩ ⟨Nat.le_of_ble_eq_true rfl, Nat.le_of_ble_eq_true rfl⟩ (fx_recv (g := 5) (i := 0) (ci := 1) (q := (RX0, TX0, 13)) hX hC (cin rfl) rfl rfl) hl.1 rfl (Nat.le_of_ble_eq_true rfl) ⟨Nat.zero_le _, Nat.zero_le _⟩ dX0_leaves_37 (fun _ H locs hC => ?_)
      refine W.eq (g2 := F0 m 40 ls [.int ((p_lv d (ix n)).1)]) rfl ?_
      have hs : s_leaves d fd n = (((p_lv d (ix n)).1, (p_lv d (ix n)).2, fd) : Int32 × Row × Row) := by rw [s_leaves, if_pos c_2, if_neg c_4]
      exact fr_i hx hb hr hlocks hX hC () (congrArg (fun z => some (Value.int z)) (t3_1 hs)) ((congrArg (fun z => cct G (pg z kp as un to sc ((s_leaves d fd n).2.2) tp sh) sp) (t3_2 hs)).trans (congrArg (fun z => cct G (pg ((p_lv d (ix n)).2) kp as un to sc z tp sh) sp) (t3_3 hs))).symm dX0_leaves_40
    · refine lv_aload_n hx hb dX0_leaves_27 rfl (lv_at hl 0 rfl) ?_
      refine lv_iconst (v := 4) hx hb dX0_leaves_28 rfl ?_
      refine fc_V (As := [.int 4]) (rest := []) hx hb hml hown hts hX hC (m_X0_finding 4 (vin_b rfl)) (lw_V q472 q474 qs2 q108 q475) hdV_X0_finding ⟨rfl, rfl⟩ ⟨Nat.le_of_ble_eq_true rfl, Nat.le_of_ble_eq_true rfl⟩ (fx_recv (g := 5) (i := 0) (ci := 1) (q := (RX0, TX0, 13)) hX hC (cin rfl) rfl rfl) hl.1 rfl (Nat.le_of_ble_eq_true rfl) ⟨Nat.zero_le _, Nat.zero_le _⟩ dX0_leaves_29 (fun _ H locs hC => ?_)
      refine W.eq (g2 := F0 m 32 ls [.int (-1000005)]) rfl ?_
      refine lv_goto (tgt := 40) hx hb dX0_leaves_32 (by decide) ?_
      have hs : s_leaves d fd n = (((-1000005), d, p_find fd 4) : Int32 × Row × Row) := by rw [s_leaves, if_pos c_2, if_pos c_4]
      exact fr_i hx hb hr hlocks hX hC () (congrArg (fun z => some (Value.int z)) (t3_1 hs)) ((congrArg (fun z => cct G (pg z kp as un to sc ((s_leaves d fd n).2.2) tp sh) sp) (t3_2 hs)).trans (congrArg (fun z => cct G (pg d kp as un to sc z tp sh) sp) (t3_3 hs))).symm dX0_leaves_40
  · refine lv_aload_n hx hb dX0_leaves_10 rfl (lv_at hl 0 rfl) ?_
    refine lv_iconst (v := 0) hx hb dX0_leaves_11 rfl ?_
    refine fc_V (As := [.int 0]) (rest := []) hx hb hml hown hts hX hC (m_X0_finding 0 (vin_b rfl)) (lw_V q472 q474 qs2 q108 q475) hdV_X0_finding ⟨rfl, rfl⟩ ⟨Nat.le_of_ble_eq_true rfl, Nat.le_of_ble_eq_true rfl⟩ (fx_recv (g := 5) (i := 0) (ci := 1) (q := (RX0, TX0, 13)) hX hC (cin rfl) rfl rfl) hl.1 rfl (Nat.le_of_ble_eq_true rfl) ⟨Nat.zero_le _, Nat.zero_le _⟩ dX0_leaves_12 (fun _ H locs hC => ?_)
    refine W.eq (g2 := F0 m 15 ls [.int (-1000001)]) rfl ?_
    have hs : s_leaves d fd n = (((-1000001), d, p_find fd 0) : Int32 × Row × Row) := by rw [s_leaves, if_neg c_2]
    exact fr_i hx hb hr hlocks hX hC () (congrArg (fun z => some (Value.int z)) (t3_1 hs)) ((congrArg (fun z => cct G (pg z kp as un to sc ((s_leaves d fd n).2.2) tp sh) sp) (t3_2 hs)).trans (congrArg (fun z => cct G (pg d kp as un to sc z tp sh) sp) (t3_3 hs))).symm dX0_leaves_15
set_option maxRecDepth 100000 in
theorem m_X0_divisor {l : Launch} {F : Fam} {ct : Ct} (a b : Nat) (ha : a ≤ 36) (hb0 : b ≤ 36) : Cm l yX0_divisor (ws_ yX0_divisor cX0_divisor 5 (some .int)) ({ frames := 0, cells := 0, slots := 0, locals := 0 }) F [.int (nI a), .int (nI b)] (ct) (fun _ : Unit => some (.int (nI (Nat.gcd a b)))) (fun _ => ct) := by
  refine Cm.start (by decide) (Nat.le_of_ble_eq_true rfl) ?_
  intro p e s m below meth c hf hX hC ls hl
  obtain ⟨hx, hb, hr, hml, hown, hts, hlocks⟩ := hf
  have hl : lv_has ls 5 [(0, .int (nI a)), (1, .int (nI b))] := hl
  have hown : s.vm.findClass "OwlEars" = some m.cls := hown
  refine lv_iload_n hx hb dX0_divisor_0 rfl (lv_at hl 0 rfl) ?_
  refine lv_istore_n (lv' := [(2, .int (nI a)), (0, .int (nI a)), (1, .int (nI b))]) hx hb dX0_divisor_1 rfl hl (by decide) rfl (fun ls hl => ?_)
  refine lv_iload_n hx hb dX0_divisor_2 rfl (lv_at hl 2 rfl) ?_
  refine lv_istore_n (lv' := [(3, .int (nI b)), (2, .int (nI a)), (0, .int (nI a)), (1, .int (nI b))]) hx hb dX0_divisor_3 rfl hl (by decide) rfl (fun ls hl => ?_)
  have L_1 : ∀ (k1 a1 b1 : Nat), b1 ≤ k1 → a1 ≤ 36 → b1 ≤ 36 → Nat.gcd a1 b1 = Nat.gcd a b → ∀ (H : Heap) (locs : List Loc), fC F (ct) s.heap H locs → ∀ ls : Array Slot, lv_has ls 5 [(3, .int (nI b1)), (2, .int (nI a1)), (0, .int (nI a)), (1, .int (nI b))] → WG p l e ({ frames := 0, cells := 0, slots := 0, locals := 0 }) s m (([.int (nI a), .int (nI b)] : List Value).toArray) below meth c H locs F (fun _ : Unit => some (.int (nI (Nat.gcd a b)))) (fun _ => ct) (F0 m 4 ls []) := by
    intro k1
    induction k1 with
    | zero =>
      intro a1 b1 hk ha9 hb9 hg H locs hC ls hl
      obtain rfl : b1 = 0 := by omega
      rw [Nat.gcd_zero_right] at hg
      rw [show a1 = Nat.gcd a b from hg] at hl
      refine lv_iload_n hx hb dX0_divisor_4 rfl (lv_at hl 0 rfl) ?_
      refine lv_if_eq (tgt := 21) hx hb dX0_divisor_5 (by decide) (fun _ => ?_) (fun z_2 => absurd nI_0 z_2)
      refine lv_iload_n hx hb dX0_divisor_21 rfl (lv_at hl 1 rfl) ?_
      exact fr_i hx hb hr hlocks hX hC () rfl rfl dX0_divisor_22
    | succ k1 ih1 =>
      intro a1 b1 hk ha9 hb9 hg H locs hC ls hl
      by_cases hz : b1 = 0
      · obtain rfl : b1 = 0 := by omega
        rw [Nat.gcd_zero_right] at hg
        rw [show a1 = Nat.gcd a b from hg] at hl
        refine lv_iload_n hx hb dX0_divisor_4 rfl (lv_at hl 0 rfl) ?_
        refine lv_if_eq (tgt := 21) hx hb dX0_divisor_5 (by decide) (fun _ => ?_) (fun z_3 => absurd nI_0 z_3)
        refine lv_iload_n hx hb dX0_divisor_21 rfl (lv_at hl 1 rfl) ?_
        exact fr_i hx hb hr hlocks hX hC () rfl rfl dX0_divisor_22
      · refine lv_iload_n hx hb dX0_divisor_4 rfl (lv_at hl 0 rfl) ?_
        refine lv_if_eq (tgt := 21) hx hb dX0_divisor_5 (by decide) (fun z_4 => absurd z_4 (nI_ne0 (n := b1) (by omega) (by omega))) (fun _ => ?_)
        refine lv_iload_n hx hb dX0_divisor_8 rfl (lv_at hl 1 rfl) ?_
        refine lv_iload_n hx hb dX0_divisor_9 rfl (lv_at hl 0 rfl) ?_
        refine fw_irem hx hb dX0_divisor_10 (nI_ne0 (n := b1) (by omega) (by omega)) ?_
        refine lv_istore (lv' := [(4, .int (rm (nI a1) (nI b1))), (3, .int (nI b1)), (2, .int (nI a1)), (0, .int (nI a)), (1, .int (nI b))]) hx hb dX0_divisor_11 hl (by decide) rfl (fun ls hl => ?_)
        refine lv_iload_n hx hb dX0_divisor_13 rfl (lv_at hl 1 rfl) ?_
        refine lv_istore_n (lv' := [(2, .int (nI b1)), (4, .int (rm (nI a1) (nI b1))), (3, .int (nI b1)), (0, .int (nI a)), (1, .int (nI b))]) hx hb dX0_divisor_14 rfl hl (by decide) rfl (fun ls hl => ?_)
        refine lv_iload hx hb dX0_divisor_15 (lv_at hl 1 rfl) ?_
        refine lv_istore_n (lv' := [(3, .int (rm (nI a1) (nI b1))), (2, .int (nI b1)), (4, .int (rm (nI a1) (nI b1))), (0, .int (nI a)), (1, .int (nI b))]) hx hb dX0_divisor_17 rfl hl (by decide) rfl (fun ls hl => ?_)
        refine lv_goto (tgt := 4) hx hb dX0_divisor_18 (by decide) ?_
        rw [rm_nI (a := a1) (b := b1) (by omega) (by omega)] at hl
        exact ih1 b1 (a1 % b1) (by have := Nat.mod_lt a1 (show b1 > 0 by omega); omega) (by omega) (by have := Nat.mod_lt a1 (show b1 > 0 by omega); omega) (by rw [← hg, Nat.gcd_comm a1 b1, Nat.gcd_rec b1 a1, Nat.gcd_comm]) _ _ hC ls (lv_sub hl [0, 1, 3, 4] rfl)
  exact L_1 36 _ _ hb0 ha hb0 rfl _ _ hC ls (lv_sub hl [0, 1, 2, 3] rfl)
set_option maxRecDepth 100000 in
theorem m_X0_odds {l : Launch} {G : Gc} {d kp as un to sc fd tp sh : Row} {sp : Nat → Option Nat} (hw : WF d) (n what : Int32) : Cm l yX0_odds (ws_ yX0_odds cX0_odds 9 (some .long)) ({ frames := 1, cells := 0, slots := 0, locals := 25 }) (cF G) [.ref (G.ad 5 0), .int n, .int what] (cct G (pg d kp as un to sc fd tp sh) sp) (fun _ : Unit => some (.long ((s_odds d fd n what).1))) (fun _ => cct G (pg d kp as un to sc ((s_odds d fd n what).2) tp sh) sp) := by
  refine Cm.start (by decide) (Nat.le_of_ble_eq_true rfl) ?_
  intro p e s m below meth c hf hX hC ls hl
  obtain ⟨hx, hb, hr, hml, hown, hts, hlocks⟩ := hf
  have hl : lv_has ls 9 [(0, .ref (G.ad 5 0)), (1, .int n), (2, .int what)] := hl
  have hown : s.vm.findClass "OwlEars" = some m.cls := hown
  refine lv_iload_n hx hb dX0_odds_0 rfl (lv_at hl 1 rfl) ?_
  refine lv_iconst (v := 0) hx hb dX0_odds_1 rfl ?_
  refine lv_bipush (v := 11) hx hb dX0_odds_2 rfl ?_
  refine fc_S (As := [.int n, .int 0, .int 11]) (rest := []) hx hb hml hown hts hX hC (m_X0_in n 0 11) (lw_S q469 q470 q108 q471) hdS_X0_in ⟨rfl, rfl⟩ ⟨Nat.le_of_ble_eq_true rfl, Nat.le_of_ble_eq_true rfl⟩ hl.1 rfl (Nat.le_of_ble_eq_true rfl) ⟨Nat.zero_le _, Nat.zero_le _⟩ dX0_odds_4 (fun _ H locs hC => ?_)
  refine W.eq (g2 := F0 m 7 ls [.int (b2i (p_in n 0 11))]) rfl ?_
  refine fb_eq (tgt := 19) hx hb dX0_odds_7 (by decide) (fun c_2 => ?_) (fun c_2 => ?_)
  · refine lv_aload_n hx hb dX0_odds_19 rfl (lv_at hl 0 rfl) ?_
    refine lv_iconst (v := 0) hx hb dX0_odds_20 rfl ?_
    refine fc_V (As := [.int 0]) (rest := []) hx hb hml hown hts hX hC (m_X0_finding 0 (vin_b rfl)) (lw_V q472 q474 qs2 q108 q475) hdV_X0_finding ⟨rfl, rfl⟩ ⟨Nat.le_of_ble_eq_true rfl, Nat.le_of_ble_eq_true rfl⟩ (fx_recv (g := 5) (i := 0) (ci := 1) (q := (RX0, TX0, 13)) hX hC (cin rfl) rfl rfl) hl.1 rfl (Nat.le_of_ble_eq_true rfl) ⟨Nat.zero_le _, Nat.zero_le _⟩ dX0_odds_21 (fun _ H locs hC => ?_)
    refine W.eq (g2 := F0 m 24 ls [.int (-1000001)]) rfl ?_
    refine lv_i2l (v := ((-1000001) : Int32).toInt64) hx hb dX0_odds_24 rfl ?_
    have hs : s_odds d fd n what = ((((-1000001) : Int32).toInt64, p_find fd 0) : Int64 × Row) := by rw [s_odds, if_neg (fun z => c_2 z.1)]
    exact fr_l hx hb hr hlocks hX hC () (congrArg (fun z => some (Value.long z)) (t2_1 hs)) (congrArg (fun z => cct G (pg d kp as un to sc z tp sh) sp) (t2_2 hs)).symm dX0_odds_25
  · refine lv_iload_n hx hb dX0_odds_10 rfl (lv_at hl 2 rfl) ?_
    refine lv_iconst (v := 0) hx hb dX0_odds_11 rfl ?_
    refine lv_iconst (v := 1) hx hb dX0_odds_12 rfl ?_
    refine fc_S (As := [.int what, .int 0, .int 1]) (rest := []) hx hb hml hown hts hX hC (m_X0_in what 0 1) (lw_S q469 q470 q108 q471) hdS_X0_in ⟨rfl, rfl⟩ ⟨Nat.le_of_ble_eq_true rfl, Nat.le_of_ble_eq_true rfl⟩ hl.1 rfl (Nat.le_of_ble_eq_true rfl) ⟨Nat.zero_le _, Nat.zero_le _⟩ dX0_odds_13 (fun _ H locs hC => ?_)
    refine W.eq (g2 := F0 m 16 ls [.int (b2i (p_in what 0 1))]) rfl ?_
    refine fb_ne (tgt := 26) hx hb dX0_odds_16 (by decide) (fun c_5 => ?_) (fun c_5 => ?_)
    · refine lv_bipush (v := 36) hx hb dX0_odds_26 rfl ?_
      refine lv_aload_n hx hb dX0_odds_28 rfl (lv_at hl 0 rfl) ?_
      refine fg_get (C := RX0) (T := TX0) (N := 13) (ci := 1) (g := 5) (i := 0) (v := .ref (G.ad 0 0)) hx hb hown hts hX hC in_X0 rfl (cin rfl) rfl 3 (by decide) q425 (fun _ h => h) rfl dX0_odds_29 ?_
      refine fc_V (As := []) (rest := [.int 36]) hx hb hml hown hts hX hC (m_X4_noisy) (lw_V q1043 q1044 q1045 q115 q1046) hdV_X4_noisy ⟨rfl, rfl⟩ ⟨Nat.le_of_ble_eq_true rfl, Nat.le_of_ble_eq_true rfl⟩ (fx_recv (g := 0) (i := 0) (ci := 0) (q := (RX4, TX4, 9)) hX hC (cin rfl) rfl rfl) hl.1 rfl (Nat.le_of_ble_eq_true rfl) ⟨Nat.zero_le _, Nat.zero_le _⟩ dX0_odds_32 (fun _ H locs hC => ?_)
      refine W.eq (g2 := F0 m 35 ls [.int (p_sum (fun k => if 0 < d (56 + k) then 1 else 0) 36), .int 36]) rfl ?_
      refine lv_isub hx hb dX0_odds_35 ?_
      rw [above_36 hw]
      refine lv_istore_n (lv' := [(3, .int (nI ((p_above d)))), (0, .ref (G.ad 5 0)), (1, .int n), (2, .int what)]) hx hb dX0_odds_36 rfl hl (by decide) rfl (fun ls hl => ?_)
      refine lv_iload_n hx hb dX0_odds_37 rfl (lv_at hl 0 rfl) ?_
      refine lv_bipush (v := 36) hx hb dX0_odds_38 rfl ?_
      refine fc_S (As := [.int (nI ((p_above d))), .int 36]) (rest := []) hx hb hml hown hts hX hC (m_X0_divisor (p_above d) 36 (above_le d) (by decide)) (lw_S q1047 q1048 q108 q1049) hdS_X0_divisor ⟨rfl, rfl⟩ ⟨Nat.le_of_ble_eq_true rfl, Nat.le_of_ble_eq_true rfl⟩ hl.1 rfl (Nat.le_of_ble_eq_true rfl) ⟨Nat.zero_le _, Nat.zero_le _⟩ dX0_odds_40 (fun _ H locs hC => ?_)
      refine W.eq (g2 := F0 m 43 ls [.int (nI (Nat.gcd (p_above d) 36))]) rfl ?_
      refine lv_istore (lv' := [(4, .int (nI (Nat.gcd (p_above d) 36))), (3, .int (nI ((p_above d)))), (0, .ref (G.ad 5 0)), (1, .int n), (2, .int what)]) hx hb dX0_odds_43 hl (by decide) rfl (fun ls hl => ?_)
      refine lv_iload_n hx hb dX0_odds_45 rfl (lv_at hl 4 rfl) ?_
      refine fw_join (C := what = 0) (a := nI ((p_above d))) (b := 36) (pcj := 55) (ls := ls) (rest := []) (fun ja jb => ?_) ?_
      · refine lv_if_ne (tgt := 53) hx hb dX0_odds_46 (by decide) (fun c_8 => ?_) (fun c_8 => ?_)
        · refine lv_bipush (v := 36) hx hb dX0_odds_53 rfl ?_
          exact jb c_8
        · refine lv_iload_n hx hb dX0_odds_49 rfl (lv_at hl 1 rfl) ?_
          refine lv_goto (tgt := 55) hx hb dX0_odds_50 (by decide) ?_
          exact ja c_8
      refine lv_iload hx hb dX0_odds_55 (lv_at hl 0 rfl) ?_
      refine lv_idiv hx hb dX0_odds_57 (nI_ne0 (gcd36 _).1 (by have := (gcd36 (p_above d)).2; omega)) ?_
      refine lv_istore (lv' := [(5, .int ((if what = 0 then nI ((p_above d)) else 36) / (nI (Nat.gcd (p_above d) 36)))), (4, .int (nI (Nat.gcd (p_above d) 36))), (3, .int (nI ((p_above d)))), (0, .ref (G.ad 5 0)), (1, .int n), (2, .int what)]) hx hb dX0_odds_58 hl (by decide) rfl (fun ls hl => ?_)
      refine lv_lconst (v := 1) hx hb dX0_odds_60 rfl ?_
      refine lv_lstore (lv' := [(6, .long 1), (5, .int ((if what = 0 then nI ((p_above d)) else 36) / (nI (Nat.gcd (p_above d) 36)))), (4, .int (nI (Nat.gcd (p_above d) 36))), (3, .int (nI ((p_above d)))), (0, .ref (G.ad 5 0)), (1, .int n), (2, .int what)]) hx hb dX0_odds_61 hl (by decide) rfl (fun ls hl => ?_)
      refine lv_iconst (v := 0) hx hb dX0_odds_63 rfl ?_
      refine lv_istore (lv' := [(8, .int 0), (6, .long 1), (5, .int ((if what = 0 then nI ((p_above d)) else 36) / (nI (Nat.gcd (p_above d) 36)))), (4, .int (nI (Nat.gcd (p_above d) 36))), (3, .int (nI ((p_above d)))), (0, .ref (G.ad 5 0)), (1, .int n), (2, .int what)]) hx hb dX0_odds_64 hl (by decide) rfl (fun ls hl => ?_)
      have L_9 : ∀ (k9 i9 : Nat), i9 + k9 = ix n → ∀ (H : Heap) (locs : List Loc), fC (cF G) (cct G (pg d kp as un to sc fd tp sh) sp) s.heap H locs → ∀ ls : Array Slot, lv_has ls 9 [(0, .ref (G.ad 5 0)), (1, .int n), (2, .int what), (3, .int (nI ((p_above d)))), (4, .int (nI (Nat.gcd (p_above d) 36))), (5, .int ((if what = 0 then nI ((p_above d)) else 36) / (nI (Nat.gcd (p_above d) 36)))), (6, .long (p_pow ((if what = 0 then nI (p_above d) else 36) / nI (Nat.gcd (p_above d) 36)).toInt64 i9)), (8, .int (nI i9))] → WG p l e ({ frames := 1, cells := 0, slots := 0, locals := 25 }) s m (([.ref (G.ad 5 0), .int n, .int what] : List Value).toArray) below meth c H locs (cF G) (fun _ : Unit => some (.long ((s_odds d fd n what).1))) (fun _ => cct G (pg d kp as un to sc ((s_odds d fd n what).2) tp sh) sp) (F0 m 66 ls []) := by
        intro k9
        induction k9 with
        | zero =>
          intro i9 hi9 H locs hC ls hl
          obtain rfl : i9 = ix n := by omega
          refine lv_iload hx hb dX0_odds_66 (lv_at hl 7 rfl) ?_
          refine lv_iload_n hx hb dX0_odds_68 rfl (lv_at hl 1 rfl) ?_
          refine fj_ge (tgt := 86) hx hb dX0_odds_69 (by decide) (fun _ => ?_) (fun z_10 => absurd z_10 (nlt_ix (n := n)))
          refine lv_lload hx hb dX0_odds_86 (lv_at hl 6 rfl) ?_
          have hs : s_odds d fd n what = ((p_pow ((if what = 0 then nI (p_above d) else 36) / nI (Nat.gcd (p_above d) 36)).toInt64 (ix n), fd) : Int64 × Row) := by rw [s_odds, if_pos ⟨c_2, c_5⟩]
          exact fr_l hx hb hr hlocks hX hC () (congrArg (fun z => some (Value.long z)) (t2_1 hs)) (congrArg (fun z => cct G (pg d kp as un to sc z tp sh) sp) (t2_2 hs)).symm dX0_odds_88
        | succ k9 ih9 =>
          intro i9 hi9 H locs hC ls hl
          have hz9 : i9 < 2147483648 := by have := ix_lt n; omega
          refine lv_iload hx hb dX0_odds_66 (lv_at hl 7 rfl) ?_
          refine lv_iload_n hx hb dX0_odds_68 rfl (lv_at hl 1 rfl) ?_
          refine fj_ge (tgt := 86) hx hb dX0_odds_69 (by decide) (fun z_11 => absurd (lt_ix (n := n) (show i9 < ix n by omega)) z_11) (fun _ => ?_)
          refine lv_lload hx hb dX0_odds_72 (lv_at hl 6 rfl) ?_
          refine lv_iload hx hb dX0_odds_74 (lv_at hl 5 rfl) ?_
          refine lv_i2l (v := ((if what = 0 then nI ((p_above d)) else 36) / (nI (Nat.gcd (p_above d) 36))).toInt64) hx hb dX0_odds_76 rfl ?_
          refine lv_lmul hx hb dX0_odds_77 ?_
          refine lv_lstore (lv' := [(6, .long ((p_pow ((if what = 0 then nI (p_above d) else 36) / nI (Nat.gcd (p_above d) 36)).toInt64 i9) * (((if what = 0 then nI ((p_above d)) else 36) / (nI (Nat.gcd (p_above d) 36))).toInt64))), (0, .ref (G.ad 5 0)), (1, .int n), (2, .int what), (3, .int (nI ((p_above d)))), (4, .int (nI (Nat.gcd (p_above d) 36))), (5, .int ((if what = 0 then nI ((p_above d)) else 36) / (nI (Nat.gcd (p_above d) 36)))), (8, .int (nI i9))]) hx hb dX0_odds_78 hl (by decide) rfl (fun ls hl => ?_)
          refine lv_iinc (v := nI (i9 + 1)) (lv' := [(8, .int (nI (i9 + 1))), (6, .long ((p_pow ((if what = 0 then nI (p_above d) else 36) / nI (Nat.gcd (p_above d) 36)).toInt64 i9) * (((if what = 0 then nI ((p_above d)) else 36) / (nI (Nat.gcd (p_above d) 36))).toInt64))), (0, .ref (G.ad 5 0)), (1, .int n), (2, .int what), (3, .int (nI ((p_above d)))), (4, .int (nI (Nat.gcd (p_above d) 36))), (5, .int ((if what = 0 then nI ((p_above d)) else 36) / (nI (Nat.gcd (p_above d) 36))))]) hx hb dX0_odds_80 hl (k := 7) rfl (nI_1 _) (by decide) rfl (fun ls hl => ?_)
          refine lv_goto (tgt := 66) hx hb dX0_odds_83 (by decide) ?_
          exact ih9 (i9 + 1) (by omega) _ _ hC ls (lv_sub hl [2, 3, 4, 5, 6, 7, 1, 0] rfl)
      exact L_9 (ix n) 0 (by omega) _ _ hC ls (lv_sub hl [5, 6, 7, 4, 3, 2, 1, 0] rfl)
    · refine lv_aload_n hx hb dX0_odds_19 rfl (lv_at hl 0 rfl) ?_
      refine lv_iconst (v := 0) hx hb dX0_odds_20 rfl ?_
      refine fc_V (As := [.int 0]) (rest := []) hx hb hml hown hts hX hC (m_X0_finding 0 (vin_b rfl)) (lw_V q472 q474 qs2 q108 q475) hdV_X0_finding ⟨rfl, rfl⟩ ⟨Nat.le_of_ble_eq_true rfl, Nat.le_of_ble_eq_true rfl⟩ (fx_recv (g := 5) (i := 0) (ci := 1) (q := (RX0, TX0, 13)) hX hC (cin rfl) rfl rfl) hl.1 rfl (Nat.le_of_ble_eq_true rfl) ⟨Nat.zero_le _, Nat.zero_le _⟩ dX0_odds_21 (fun _ H locs hC => ?_)
      refine W.eq (g2 := F0 m 24 ls [.int (-1000001)]) rfl ?_
      refine lv_i2l (v := ((-1000001) : Int32).toInt64) hx hb dX0_odds_24 rfl ?_
      have hs : s_odds d fd n what = ((((-1000001) : Int32).toInt64, p_find fd 0) : Int64 × Row) := by rw [s_odds, if_neg (fun z => c_5 z.2)]
      exact fr_l hx hb hr hlocks hX hC () (congrArg (fun z => some (Value.long z)) (t2_1 hs)) (congrArg (fun z => cct G (pg d kp as un to sc z tp sh) sp) (t2_2 hs)).symm dX0_odds_25
