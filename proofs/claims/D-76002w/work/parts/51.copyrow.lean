def ctset (ct : Ct) (g i : Nat) (e : va_E) : Ct := fun a b => if a = g ∧ b = i then e else ct a b
theorem ctset_s {ct : Ct} {g i : Nat} {e : va_E} : ctset ct g i e g i = e := if_pos ⟨rfl, rfl⟩
theorem ctset_n {ct : Ct} {g i a b : Nat} {e : va_E} (h : ¬ (a = g ∧ b = i)) : ctset ct g i e a b = ct a b := if_neg h
set_option maxRecDepth 100000 in
theorem m_X13_copyRow {l : Launch} {F : Fam} {ct ctn : Ct} {g1 i1 g2 i2 t0 : Nat} {c1 : ClassId} {f h : Nat → Int32} (hi1 : (g1, i1) ∈ F.ids) (he1 : ct g1 i1 = .inl (c1, 124, .inl f)) (hi2 : (g2, i2) ∈ F.ids) (he2 : ct g2 i2 = .inl (c1, 124, .inl h)) (ht : F.tys[t0]? = some (c1, .int)) (hne : ¬ (g1 = g2 ∧ i1 = i2)) (hu : ups F ct ctn g2 i2 (.inl (c1, 124, .inl f))) : Cm l yX13_copyRow (ws_ yX13_copyRow cX13_copyRow 3 none) ({ frames := 0, cells := 0, slots := 0, locals := 0 }) F [.ref (F.ad g1 i1), .ref (F.ad g2 i2)] ct (fun _ : Unit => none) (fun _ => ctn) := by
  refine Cm.start (by decide) (Nat.le_of_ble_eq_true rfl) ?_
  intro p e s m below meth c hf hX hC ls hl
  obtain ⟨hx, hb, hr, hml, hown, hts, hlocks⟩ := hf
  have hl : lv_has ls 3 [(0, .ref (F.ad g1 i1)), (1, .ref (F.ad g2 i2))] := hl
  refine lv_iconst (v := 0) hx hb dX13_copyRow_0 rfl ?_
  refine lv_istore_n (lv' := [(2, .int 0), (0, .ref (F.ad g1 i1)), (1, .ref (F.ad g2 i2))]) hx hb dX13_copyRow_1 rfl hl (by decide) rfl (fun ls hl => ?_)
  have L : ∀ (k i : Nat), i + k = 124 → ∀ (H : Heap) (locs : List Loc), fC F (ctset ct g2 i2 (.inl (c1, 124, .inl (p_cp f h i)))) s.heap H locs → ∀ ls : Array Slot, lv_has ls 3 [(2, .int (nI i)), (0, .ref (F.ad g1 i1)), (1, .ref (F.ad g2 i2))] → WG p l e ({ frames := 0, cells := 0, slots := 0, locals := 0 }) s m (([.ref (F.ad g1 i1), .ref (F.ad g2 i2)] : List Value).toArray) below meth c H locs F (fun _ : Unit => none) (fun _ => ctn) (F0 m 2 ls []) := by
    intro k
    induction k with
    | zero =>
      intro i hi H locs hC ls hl
      obtain rfl : i = 124 := by omega
      refine lv_iload_n hx hb dX13_copyRow_2 rfl (lv_at hl 0 rfl) ?_
      refine lv_bipush (v := 124) hx hb dX13_copyRow_3 rfl ?_
      refine fj_ge (tgt := 20) hx hb dX13_copyRow_5 (by decide) (fun _ => ?_) (fun z => absurd z (by decide))
      have hC : fC F ctn s.heap H locs := by
        refine fC_by hC (fun x hx H z => ?_)
        by_cases q : x = (g2, i2)
        · subst q
          rw [ctset_s] at z
          exact hu.1 H (at_arr (fun k hk => if_pos hk) H z)
        · have q1 : ¬ (x.1 = g2 ∧ x.2 = i2) := fun w => q (Prod.ext w.1 w.2)
          rw [ctset_n q1] at z
          exact hu.2 x hx q H z
      exact fr_v hx hb hr hlocks hX hC () rfl rfl dX13_copyRow_20
    | succ k ih =>
      intro i hi H locs hC ls hl
      have ei : (nI i).toNatClampNeg = i := nI_clamp (by omega)
      refine lv_iload_n hx hb dX13_copyRow_2 rfl (lv_at hl 0 rfl) ?_
      refine lv_bipush (v := 124) hx hb dX13_copyRow_3 rfl ?_
      refine fj_ge (tgt := 20) hx hb dX13_copyRow_5 (by decide) (fun z => absurd (nI_lt (b := 124) (show i < 124 by omega) (by decide)) z) (fun _ => ?_)
      refine lv_aload_n hx hb dX13_copyRow_8 rfl (lv_at hl 2 rfl) ?_
      refine lv_iload_n hx hb dX13_copyRow_9 rfl (lv_at hl 0 rfl) ?_
      refine lv_aload_n hx hb dX13_copyRow_10 rfl (lv_at hl 1 rfl) ?_
      refine lv_iload_n hx hb dX13_copyRow_11 rfl (lv_at hl 0 rfl) ?_
      refine fg_iald (v := f i) hx hb hX hC hi1 (by rw [ctset_n hne]; exact he1) ht (vp_in_nI (by omega) (by decide)) (by rw [ei]) dX13_copyRow_12 ?_
      refine fg_iast hx hb hX hC hi2 ctset_s ht (vp_in_nI (by omega) (by decide)) (ctset ct g2 i2 (.inl (c1, 124, .inl (p_cp f h (i + 1))))) ⟨fun H z => by rw [ctset_s]; rw [ei, p_cp_s] at z; exact z, fun x hx hn H z => by
          have q1 : ¬ (x.1 = g2 ∧ x.2 = i2) := fun w => hn (Prod.ext w.1 w.2)
          rw [ctset_n q1] at z ⊢
          exact z⟩ dX13_copyRow_13 (fun H locs hC => ?_)
      refine lv_iinc (v := nI (i + 1)) (lv' := [(2, .int (nI (i + 1))), (0, .ref (F.ad g1 i1)), (1, .ref (F.ad g2 i2))]) hx hb dX13_copyRow_14 hl (k := 0) rfl (nI_1 _) (by decide) rfl (fun ls hl => ?_)
      refine lv_goto (tgt := 2) hx hb dX13_copyRow_17 (by decide) ?_
      exact ih (i + 1) (by omega) _ _ hC ls hl
  have hC : fC F (ctset ct g2 i2 (.inl (c1, 124, .inl (p_cp f h 0)))) s.heap s.heap [] := by
    refine fC_by hC (fun x hx H z => ?_)
    by_cases q : x = (g2, i2)
    · subst q
      rw [ctset_s]
      have z : va_at F.D F.cl (F.ad g2 i2, ct g2 i2) H := z
      rw [he2] at z
      exact at_arr (fun k hk => (if_neg (Nat.not_lt_zero k)).symm) H z
    · have q1 : ¬ (x.1 = g2 ∧ x.2 = i2) := fun w => q (Prod.ext w.1 w.2)
      rw [ctset_n q1]
      exact z
  exact L 124 0 rfl _ _ hC ls hl
