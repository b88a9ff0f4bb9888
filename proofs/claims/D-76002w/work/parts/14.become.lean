section FCOPY
variable {p : Program} {l : Launch} {e : Env} {R : Room} {s : State} {m : MethodId} {args : Array Value} {below : List Frame} {meth : Method} {c : Code} {H : Heap} {locs : List Loc} {cells slots : Nat} {Q : State → Prop}
variable {cc : ByteArray} {pc : Nat} {ls : Array Slot} {rest : List Value} {F : Fam} {ct : Ct}
theorem fg_copy {g1 i1 g2 i2 n1 n2 t1 t2 : Nat} {c1 c2 : ClassId} {f h : Nat → Int32} {ty : FieldType} {own : String} {index : Nat} (hx : p.tables.exec = Jvm.exec) (hb : c.code = cc) (hml : c.maxLocals = ls.size) (hown : s.vm.findClass own = some m.cls) (hts : ∀ w ∈ lw_all, w.before args s = true) (hlink : Cond.methodLink own index arraycopyName ∈ lw_all) (hX : fX F s) (hC : fC F ct s.heap H locs) (hi1 : (g1, i1) ∈ F.ids) (he1 : ct g1 i1 = .inl (c1, n1, .inl f)) (hi2 : (g2, i2) ∈ F.ids) (he2 : ct g2 i2 = .inl (c2, n2, .inl h)) (ht1 : F.tys[t1]? = some (c1, ty)) (ht2 : F.tys[t2]? = some (c2, ty)) (hprim : refKind ty = false)
    {sp dp n : Int32} (h1 : ¬ sp < 0) (h2 : ¬ dp < 0) (h3 : ¬ n < 0) (h4 : ix sp + ix n ≤ n1) (h5 : ix dp + ix n ≤ n2) (hfit : ∀ i, i < ix n → fits ty (.int (f (ix sp + i))) = true) (hframes : 1 ≤ R.frames) (hlocals : (rest.map fun v => v.category).sum + (nativeFrameWords "java/lang/System" "arraycopy" 5 + 11) ≤ R.locals) (ctn : Ct) (hu : ups F ct ctn g2 i2 (.inl (c2, n2, .inl (va_cpy f h (ix sp) (ix dp) (ix n))))) (hdg : decode cc pc = .ok (.invokestatic index, 3))
    (kk : ∀ (H1 : Heap) (locs1 : List Loc), fC F ctn s.heap H1 locs1 → W p l e R s m args below meth c H1 locs1 cells slots Q (F0 m (pc + 3) ls rest)) : W p l e R s m args below meth c H locs cells slots Q (F0 m pc ls (.int n :: .int dp :: .ref (F.ad g2 i2) :: .int sp :: .ref (F.ad g1 i1) :: rest)) := by
  obtain ⟨k1, -, hk1⟩ := fl_at hi1
  obtain ⟨k2, hq2, hk2⟩ := fl_at hi2
  exact va_copyi hx hb hml hown (hts _ hlink) (hts _ q709) (hts _ q708) (hts _ q126) hX.2.1 hC.1 (fD hX.1 ct s.heap.size) hC.2 k1 k2 t1 t2 (by rw [hk1 ct, he1]) (by rw [hk2 ct, he2]) ht1 ht2 hprim h1 h2 h3 h4 h5 hfit hframes hlocals hdg (fun H1 locs1 hP _ hS => kk H1 locs1 ⟨fl_set hX.1 hq2 hu hP, hS⟩)
end FCOPY
theorem fit_int (x : Int32) : fits .int (.int x) = true := rfl
set_option maxRecDepth 100000 in
theorem m_X4_copy {l : Launch} {F : Fam} {ct ctn : Ct} {g1 i1 g2 i2 n t0 : Nat} {c1 : ClassId} {f h : Nat → Int32} (hi1 : (g1, i1) ∈ F.ids) (he1 : ct g1 i1 = .inl (c1, n, .inl f)) (hi2 : (g2, i2) ∈ F.ids) (he2 : ct g2 i2 = .inl (c1, n, .inl h)) (ht : F.tys[t0]? = some (c1, .int)) (hn : n < 2147483648) (hu : ups F ct ctn g2 i2 (.inl (c1, n, .inl (va_cpy f h 0 0 n)))) : Cm l yX4_copy (ws_ yX4_copy cX4_copy 2 none) ({ frames := 1, cells := 0, slots := 0, locals := 60 }) F [.ref (F.ad g1 i1), .ref (F.ad g2 i2)] ct (fun _ : Unit => none) (fun _ => ctn) := by
  refine Cm.start (by decide) (Nat.le_of_ble_eq_true rfl) ?_
  intro p e s m below meth c hf hX hC ls hl
  obtain ⟨hx, hb, hr, hml, hown, hts, hlocks⟩ := hf
  have hl : lv_has ls 2 [(0, .ref (F.ad g1 i1)), (1, .ref (F.ad g2 i2))] := hl
  have hown : s.vm.findClass "OwlEars$World" = some m.cls := hown
  refine lv_aload_n hx hb dX4_copy_0 rfl (lv_at hl 0 rfl) ?_
  refine lv_iconst (v := 0) hx hb dX4_copy_1 rfl ?_
  refine lv_aload_n hx hb dX4_copy_2 rfl (lv_at hl 1 rfl) ?_
  refine lv_iconst (v := 0) hx hb dX4_copy_3 rfl ?_
  refine lv_aload_n hx hb dX4_copy_4 rfl (lv_at hl 1 rfl) ?_
  refine fg_alen (v := nI n) hx hb hX hC hi2 he2 ht rfl dX4_copy_5 ?_
  have en : ix (nI n) = n := nI_clamp hn
  refine fg_copy hx hb (hml.trans hl.1.symm) hown hts q707 hX hC hi1 he1 hi2 he2 ht ht rfl (by decide) (by decide) (nI_pos hn) (by rw [en]; exact Nat.le_of_eq (Nat.zero_add n)) (by rw [en]; exact Nat.le_of_eq (Nat.zero_add n)) (fun i _ => fit_int _) (Nat.le_of_ble_eq_true rfl) (by decide) ctn (by rw [en]; exact hu) dX4_copy_6 (fun H locs hC => ?_)
  exact fr_v hx hb hr hlocks hX hC () rfl rfl dX4_copy_9

theorem pg1 {d kp as un to sc fd tp sh kp' : Row} : ∀ j, j ≠ 1 → pg d kp' as un to sc fd tp sh j = pg d kp as un to sc fd tp sh j := by
  intro j hj
  match j, hj with
  | 0, _ => rfl
  | 2, _ => rfl
  | 3, _ => rfl
  | 4, _ => rfl
  | 5, _ => rfl
  | 6, _ => rfl
  | 7, _ => rfl
  | j + 8, _ => rfl

theorem pg2 {d kp as un to sc fd tp sh as' : Row} : ∀ j, j ≠ 2 → pg d kp as' un to sc fd tp sh j = pg d kp as un to sc fd tp sh j := by
  intro j hj
  match j, hj with
  | 0, _ => rfl
  | 1, _ => rfl
  | 3, _ => rfl
  | 4, _ => rfl
  | 5, _ => rfl
  | 6, _ => rfl
  | 7, _ => rfl
  | j + 8, _ => rfl

theorem pg3 {d kp as un to sc fd tp sh un' : Row} : ∀ j, j ≠ 3 → pg d kp as un' to sc fd tp sh j = pg d kp as un to sc fd tp sh j := by
  intro j hj
  match j, hj with
  | 0, _ => rfl
  | 1, _ => rfl
  | 2, _ => rfl
  | 4, _ => rfl
  | 5, _ => rfl
  | 6, _ => rfl
  | 7, _ => rfl
  | j + 8, _ => rfl

def bst (k : Nat) : Nat := if k = 0 then 10 else if k = 1 then 5 else if k = 2 then 11 else if k < 8 then 3 else if k < 10 then 4 else if k < 20 then 12 else if k < 56 then 1 else if k < 92 then 2 else 6 + k % 4
def bk (n : Nat) (w o : Row) : Row := fun k => if bst k ≤ n then o k else w k
theorem bk_t {n : Nat} {w o : Row} {k : Nat} (h : bst k ≤ n) : bk n w o k = o k := by unfold bk; rw [if_pos h]
theorem bk_f {n : Nat} {w o : Row} {k : Nat} (h : ¬ bst k ≤ n) : bk n w o k = w k := by unfold bk; rw [if_neg h]
theorem bk_eq {n : Nat} {w o : Row} {q : Nat} (h : bst q ≠ n + 1) : bk n w o q = bk (n + 1) w o q := by
  by_cases c : bst q ≤ n
  · rw [bk_t c, bk_t (by omega)]
  · rw [bk_f c, bk_f (by omega)]
theorem bst_0 : bst 0 = 10 := by decide
theorem bst_1 : bst 1 = 5 := by decide
theorem bst_2 : bst 2 = 11 := by decide
theorem bst_snow {k : Nat} (h : k < 36) : bst (20 + k) = 1 := by
  unfold bst
  rw [if_neg (by omega), if_neg (by omega), if_neg (by omega), if_neg (by omega), if_neg (by omega), if_neg (by omega), if_pos (by omega)]
theorem bst_noise {k : Nat} (h : k < 36) : bst (56 + k) = 2 := by
  unfold bst
  rw [if_neg (by omega), if_neg (by omega), if_neg (by omega), if_neg (by omega), if_neg (by omega), if_neg (by omega), if_neg (by omega), if_pos (by omega)]
theorem bst_mouse {k : Nat} (h : k < 5) : bst (3 + k) = 3 := by
  unfold bst
  rw [if_neg (by omega), if_neg (by omega), if_neg (by omega), if_pos (by omega)]
theorem bst_owl {k : Nat} (h : k < 2) : bst (8 + k) = 4 := by
  unfold bst
  rw [if_neg (by omega), if_neg (by omega), if_neg (by omega), if_neg (by omega), if_pos (by omega)]
theorem bst_holds {k : Nat} (h : k < 10) : bst (10 + k) = 12 := by
  unfold bst
  rw [if_neg (by omega), if_neg (by omega), if_neg (by omega), if_neg (by omega), if_neg (by omega), if_pos (by omega)]
theorem bst_r {b k : Nat} (hb : 92 ≤ b) : bst (b + 4 * k) = 6 + b % 4 := by
  unfold bst
  rw [if_neg (by omega), if_neg (by omega), if_neg (by omega), if_neg (by omega), if_neg (by omega), if_neg (by omega), if_neg (by omega), if_neg (by omega)]
  omega
theorem bst_le (k : Nat) : bst k ≤ 12 := by
  unfold bst
  repeat' split
  all_goals omega
theorem bst_pos (k : Nat) : 1 ≤ bst k := by
  unfold bst
  repeat' split
  all_goals omega
theorem bk_0 (w o : Row) : w = bk 0 w o := funext fun k => (bk_f (by have := bst_pos k; omega)).symm
theorem cpy0 {f g : Nat → Int32} {n k : Nat} (h : k < n) : va_cpy f g 0 0 n k = f k := by
  unfold va_cpy
  rw [if_pos (by omega)]
  congr 1
  omega
theorem cb_0 {G : Gc} {P P' : Nat → Row} {sp : Nat → Option Nat} {g : Nat} {w o : Row} (hg : g < 5) (hP : ∀ j, j ≠ g → P' j = P j) (h0 : P g = bk 0 w o) (h1 : P' g = bk 1 w o) : ups (cF G) (cct G P sp) (cct G P' sp) g 1 (.inl (G.ca 0, 36, .inl (va_cpy (fun j => o (20 + j)) (fun j => bk 0 w o (20 + j)) 0 0 36))) := by
  refine cu_w hg hP ?_ ?_
  · intro a H h
    rw [h1]
    exact at_arr (f' := fun k => bk 1 w o (20 + k)) (fun k hk => (cpy0 hk).trans (bk_t (n := 1) (w := w) (o := o) (k := 20 + k) (by rw [bst_snow hk]; decide)).symm) H h
  · intro i' hi' hne a H h
    rw [h0] at h
    rw [h1]
    match i', hi', hne, h with
    | 0, _, _, h =>
      refine at_rfl ?_ H h
      simp only [wct]
      rw [bk_eq (n := 0) (q := 0) (by decide), bk_eq (n := 0) (q := 1) (by decide), bk_eq (n := 0) (q := 2) (by decide)]
    | 1, _, hne, _ => exact absurd rfl hne
    | 2, _, _, h => exact at_arr (f := fun k => bk 0 w o (56 + k)) (f' := fun k => bk 1 w o (56 + k)) (fun k hk => bk_eq (n := 0) (q := 56 + k) (by rw [bst_noise hk]; decide)) H h
    | 3, _, _, h => exact at_arr (f := fun k => bk 0 w o (3 + k)) (f' := fun k => bk 1 w o (3 + k)) (fun k hk => bk_eq (n := 0) (q := 3 + k) (by rw [bst_mouse hk]; decide)) H h
    | 4, _, _, h => exact at_arr (f := fun k => bk 0 w o (8 + k)) (f' := fun k => bk 1 w o (8 + k)) (fun k hk => bk_eq (n := 0) (q := 8 + k) (by rw [bst_owl hk]; decide)) H h
    | 5, _, _, h => exact h
    | 6, _, _, h => exact at_arr (f := fun k => bk 0 w o (92 + 4 * k)) (f' := fun k => bk 1 w o (92 + 4 * k)) (fun k hk => bk_eq (n := 0) (q := 92 + 4 * k) (by rw [bst_r (b := 92) (k := k) (by decide)]; decide)) H h
    | 7, _, _, h => exact at_arr (f := fun k => bk 0 w o (93 + 4 * k)) (f' := fun k => bk 1 w o (93 + 4 * k)) (fun k hk => bk_eq (n := 0) (q := 93 + 4 * k) (by rw [bst_r (b := 93) (k := k) (by decide)]; decide)) H h
    | 8, _, _, h => exact at_arr (f := fun k => bk 0 w o (94 + 4 * k)) (f' := fun k => bk 1 w o (94 + 4 * k)) (fun k hk => bk_eq (n := 0) (q := 94 + 4 * k) (by rw [bst_r (b := 94) (k := k) (by decide)]; decide)) H h
    | 9, _, _, h => exact at_arr (f := fun k => bk 0 w o (95 + 4 * k)) (f' := fun k => bk 1 w o (95 + 4 * k)) (fun k hk => bk_eq (n := 0) (q := 95 + 4 * k) (by rw [bst_r (b := 95) (k := k) (by decide)]; decide)) H h
    | 10, _, _, h => exact at_arr (f := fun k => bk 0 w o (10 + k)) (f' := fun k => bk 1 w o (10 + k)) (fun k hk => bk_eq (n := 0) (q := 10 + k) (by rw [bst_holds hk]; decide)) H h

theorem cb_1 {G : Gc} {P P' : Nat → Row} {sp : Nat → Option Nat} {g : Nat} {w o : Row} (hg : g < 5) (hP : ∀ j, j ≠ g → P' j = P j) (h0 : P g = bk 1 w o) (h1 : P' g = bk 2 w o) : ups (cF G) (cct G P sp) (cct G P' sp) g 2 (.inl (G.ca 0, 36, .inl (va_cpy (fun j => o (56 + j)) (fun j => bk 1 w o (56 + j)) 0 0 36))) := by
  refine cu_w hg hP ?_ ?_
  · intro a H h
    rw [h1]
    exact at_arr (f' := fun k => bk 2 w o (56 + k)) (fun k hk => (cpy0 hk).trans (bk_t (n := 2) (w := w) (o := o) (k := 56 + k) (by rw [bst_noise hk]; decide)).symm) H h
  · intro i' hi' hne a H h
    rw [h0] at h
    rw [h1]
    match i', hi', hne, h with
    | 0, _, _, h =>
      refine at_rfl ?_ H h
      simp only [wct]
      rw [bk_eq (n := 1) (q := 0) (by decide), bk_eq (n := 1) (q := 1) (by decide), bk_eq (n := 1) (q := 2) (by decide)]
    | 1, _, _, h => exact at_arr (f := fun k => bk 1 w o (20 + k)) (f' := fun k => bk 2 w o (20 + k)) (fun k hk => bk_eq (n := 1) (q := 20 + k) (by rw [bst_snow hk]; decide)) H h
    | 2, _, hne, _ => exact absurd rfl hne
    | 3, _, _, h => exact at_arr (f := fun k => bk 1 w o (3 + k)) (f' := fun k => bk 2 w o (3 + k)) (fun k hk => bk_eq (n := 1) (q := 3 + k) (by rw [bst_mouse hk]; decide)) H h
    | 4, _, _, h => exact at_arr (f := fun k => bk 1 w o (8 + k)) (f' := fun k => bk 2 w o (8 + k)) (fun k hk => bk_eq (n := 1) (q := 8 + k) (by rw [bst_owl hk]; decide)) H h
    | 5, _, _, h => exact h
    | 6, _, _, h => exact at_arr (f := fun k => bk 1 w o (92 + 4 * k)) (f' := fun k => bk 2 w o (92 + 4 * k)) (fun k hk => bk_eq (n := 1) (q := 92 + 4 * k) (by rw [bst_r (b := 92) (k := k) (by decide)]; decide)) H h
    | 7, _, _, h => exact at_arr (f := fun k => bk 1 w o (93 + 4 * k)) (f' := fun k => bk 2 w o (93 + 4 * k)) (fun k hk => bk_eq (n := 1) (q := 93 + 4 * k) (by rw [bst_r (b := 93) (k := k) (by decide)]; decide)) H h
    | 8, _, _, h => exact at_arr (f := fun k => bk 1 w o (94 + 4 * k)) (f' := fun k => bk 2 w o (94 + 4 * k)) (fun k hk => bk_eq (n := 1) (q := 94 + 4 * k) (by rw [bst_r (b := 94) (k := k) (by decide)]; decide)) H h
    | 9, _, _, h => exact at_arr (f := fun k => bk 1 w o (95 + 4 * k)) (f' := fun k => bk 2 w o (95 + 4 * k)) (fun k hk => bk_eq (n := 1) (q := 95 + 4 * k) (by rw [bst_r (b := 95) (k := k) (by decide)]; decide)) H h
    | 10, _, _, h => exact at_arr (f := fun k => bk 1 w o (10 + k)) (f' := fun k => bk 2 w o (10 + k)) (fun k hk => bk_eq (n := 1) (q := 10 + k) (by rw [bst_holds hk]; decide)) H h

theorem cb_2 {G : Gc} {P P' : Nat → Row} {sp : Nat → Option Nat} {g : Nat} {w o : Row} (hg : g < 5) (hP : ∀ j, j ≠ g → P' j = P j) (h0 : P g = bk 2 w o) (h1 : P' g = bk 3 w o) : ups (cF G) (cct G P sp) (cct G P' sp) g 3 (.inl (G.ca 0, 5, .inl (va_cpy (fun j => o (3 + j)) (fun j => bk 2 w o (3 + j)) 0 0 5))) := by
  refine cu_w hg hP ?_ ?_
  · intro a H h
    rw [h1]
    exact at_arr (f' := fun k => bk 3 w o (3 + k)) (fun k hk => (cpy0 hk).trans (bk_t (n := 3) (w := w) (o := o) (k := 3 + k) (by rw [bst_mouse hk]; decide)).symm) H h
  · intro i' hi' hne a H h
    rw [h0] at h
    rw [h1]
    match i', hi', hne, h with
    | 0, _, _, h =>
      refine at_rfl ?_ H h
      simp only [wct]
      rw [bk_eq (n := 2) (q := 0) (by decide), bk_eq (n := 2) (q := 1) (by decide), bk_eq (n := 2) (q := 2) (by decide)]
    | 1, _, _, h => exact at_arr (f := fun k => bk 2 w o (20 + k)) (f' := fun k => bk 3 w o (20 + k)) (fun k hk => bk_eq (n := 2) (q := 20 + k) (by rw [bst_snow hk]; decide)) H h
    | 2, _, _, h => exact at_arr (f := fun k => bk 2 w o (56 + k)) (f' := fun k => bk 3 w o (56 + k)) (fun k hk => bk_eq (n := 2) (q := 56 + k) (by rw [bst_noise hk]; decide)) H h
    | 3, _, hne, _ => exact absurd rfl hne
    | 4, _, _, h => exact at_arr (f := fun k => bk 2 w o (8 + k)) (f' := fun k => bk 3 w o (8 + k)) (fun k hk => bk_eq (n := 2) (q := 8 + k) (by rw [bst_owl hk]; decide)) H h
    | 5, _, _, h => exact h
    | 6, _, _, h => exact at_arr (f := fun k => bk 2 w o (92 + 4 * k)) (f' := fun k => bk 3 w o (92 + 4 * k)) (fun k hk => bk_eq (n := 2) (q := 92 + 4 * k) (by rw [bst_r (b := 92) (k := k) (by decide)]; decide)) H h
    | 7, _, _, h => exact at_arr (f := fun k => bk 2 w o (93 + 4 * k)) (f' := fun k => bk 3 w o (93 + 4 * k)) (fun k hk => bk_eq (n := 2) (q := 93 + 4 * k) (by rw [bst_r (b := 93) (k := k) (by decide)]; decide)) H h
    | 8, _, _, h => exact at_arr (f := fun k => bk 2 w o (94 + 4 * k)) (f' := fun k => bk 3 w o (94 + 4 * k)) (fun k hk => bk_eq (n := 2) (q := 94 + 4 * k) (by rw [bst_r (b := 94) (k := k) (by decide)]; decide)) H h
    | 9, _, _, h => exact at_arr (f := fun k => bk 2 w o (95 + 4 * k)) (f' := fun k => bk 3 w o (95 + 4 * k)) (fun k hk => bk_eq (n := 2) (q := 95 + 4 * k) (by rw [bst_r (b := 95) (k := k) (by decide)]; decide)) H h
    | 10, _, _, h => exact at_arr (f := fun k => bk 2 w o (10 + k)) (f' := fun k => bk 3 w o (10 + k)) (fun k hk => bk_eq (n := 2) (q := 10 + k) (by rw [bst_holds hk]; decide)) H h

theorem cb_3 {G : Gc} {P P' : Nat → Row} {sp : Nat → Option Nat} {g : Nat} {w o : Row} (hg : g < 5) (hP : ∀ j, j ≠ g → P' j = P j) (h0 : P g = bk 3 w o) (h1 : P' g = bk 4 w o) : ups (cF G) (cct G P sp) (cct G P' sp) g 4 (.inl (G.ca 0, 2, .inl (va_cpy (fun j => o (8 + j)) (fun j => bk 3 w o (8 + j)) 0 0 2))) := by
  refine cu_w hg hP ?_ ?_
  · intro a H h
    rw [h1]
    exact at_arr (f' := fun k => bk 4 w o (8 + k)) (fun k hk => (cpy0 hk).trans (bk_t (n := 4) (w := w) (o := o) (k := 8 + k) (by rw [bst_owl hk]; decide)).symm) H h
  · intro i' hi' hne a H h
    rw [h0] at h
    rw [h1]
    match i', hi', hne, h with
    | 0, _, _, h =>
      refine at_rfl ?_ H h
      simp only [wct]
      rw [bk_eq (n := 3) (q := 0) (by decide), bk_eq (n := 3) (q := 1) (by decide), bk_eq (n := 3) (q := 2) (by decide)]
    | 1, _, _, h => exact at_arr (f := fun k => bk 3 w o (20 + k)) (f' := fun k => bk 4 w o (20 + k)) (fun k hk => bk_eq (n := 3) (q := 20 + k) (by rw [bst_snow hk]; decide)) H h
    | 2, _, _, h => exact at_arr (f := fun k => bk 3 w o (56 + k)) (f' := fun k => bk 4 w o (56 + k)) (fun k hk => bk_eq (n := 3) (q := 56 + k) (by rw [bst_noise hk]; decide)) H h
    | 3, _, _, h => exact at_arr (f := fun k => bk 3 w o (3 + k)) (f' := fun k => bk 4 w o (3 + k)) (fun k hk => bk_eq (n := 3) (q := 3 + k) (by rw [bst_mouse hk]; decide)) H h
    | 4, _, hne, _ => exact absurd rfl hne
    | 5, _, _, h => exact h
    | 6, _, _, h => exact at_arr (f := fun k => bk 3 w o (92 + 4 * k)) (f' := fun k => bk 4 w o (92 + 4 * k)) (fun k hk => bk_eq (n := 3) (q := 92 + 4 * k) (by rw [bst_r (b := 92) (k := k) (by decide)]; decide)) H h
    | 7, _, _, h => exact at_arr (f := fun k => bk 3 w o (93 + 4 * k)) (f' := fun k => bk 4 w o (93 + 4 * k)) (fun k hk => bk_eq (n := 3) (q := 93 + 4 * k) (by rw [bst_r (b := 93) (k := k) (by decide)]; decide)) H h
    | 8, _, _, h => exact at_arr (f := fun k => bk 3 w o (94 + 4 * k)) (f' := fun k => bk 4 w o (94 + 4 * k)) (fun k hk => bk_eq (n := 3) (q := 94 + 4 * k) (by rw [bst_r (b := 94) (k := k) (by decide)]; decide)) H h
    | 9, _, _, h => exact at_arr (f := fun k => bk 3 w o (95 + 4 * k)) (f' := fun k => bk 4 w o (95 + 4 * k)) (fun k hk => bk_eq (n := 3) (q := 95 + 4 * k) (by rw [bst_r (b := 95) (k := k) (by decide)]; decide)) H h
    | 10, _, _, h => exact at_arr (f := fun k => bk 3 w o (10 + k)) (f' := fun k => bk 4 w o (10 + k)) (fun k hk => bk_eq (n := 3) (q := 10 + k) (by rw [bst_holds hk]; decide)) H h

theorem cb_4 {G : Gc} {P P' : Nat → Row} {sp : Nat → Option Nat} {g : Nat} {w o : Row} (hg : g < 5) (hP : ∀ j, j ≠ g → P' j = P j) (h0 : P g = bk 4 w o) (h1 : P' g = bk 5 w o) : ups (cF G) (cct G P sp) (cct G P' sp) g 0 (.inr (0, [.ref (G.ad g 1), .ref (G.ad g 2), .ref (G.ad g 3), .ref (G.ad g 4), .int (o 1), .ref (G.ad g 5), .int (bk 4 w o 0), .int (bk 4 w o 2), .ref (G.ad g 10)])) := by
  refine cu_w hg hP ?_ ?_
  · intro a H h
    rw [h1]
    refine at_rfl ?_ H h
    simp only [wct]
    rw [bk_t (n := 5) (k := 1) (by decide), bk_eq (n := 4) (q := 0) (by decide), bk_eq (n := 4) (q := 2) (by decide)]
  · intro i' hi' hne a H h
    rw [h0] at h
    rw [h1]
    match i', hi', hne, h with
    | 0, _, hne, _ => exact absurd rfl hne
    | 1, _, _, h => exact at_arr (f := fun k => bk 4 w o (20 + k)) (f' := fun k => bk 5 w o (20 + k)) (fun k hk => bk_eq (n := 4) (q := 20 + k) (by rw [bst_snow hk]; decide)) H h
    | 2, _, _, h => exact at_arr (f := fun k => bk 4 w o (56 + k)) (f' := fun k => bk 5 w o (56 + k)) (fun k hk => bk_eq (n := 4) (q := 56 + k) (by rw [bst_noise hk]; decide)) H h
    | 3, _, _, h => exact at_arr (f := fun k => bk 4 w o (3 + k)) (f' := fun k => bk 5 w o (3 + k)) (fun k hk => bk_eq (n := 4) (q := 3 + k) (by rw [bst_mouse hk]; decide)) H h
    | 4, _, _, h => exact at_arr (f := fun k => bk 4 w o (8 + k)) (f' := fun k => bk 5 w o (8 + k)) (fun k hk => bk_eq (n := 4) (q := 8 + k) (by rw [bst_owl hk]; decide)) H h
    | 5, _, _, h => exact h
    | 6, _, _, h => exact at_arr (f := fun k => bk 4 w o (92 + 4 * k)) (f' := fun k => bk 5 w o (92 + 4 * k)) (fun k hk => bk_eq (n := 4) (q := 92 + 4 * k) (by rw [bst_r (b := 92) (k := k) (by decide)]; decide)) H h
    | 7, _, _, h => exact at_arr (f := fun k => bk 4 w o (93 + 4 * k)) (f' := fun k => bk 5 w o (93 + 4 * k)) (fun k hk => bk_eq (n := 4) (q := 93 + 4 * k) (by rw [bst_r (b := 93) (k := k) (by decide)]; decide)) H h
    | 8, _, _, h => exact at_arr (f := fun k => bk 4 w o (94 + 4 * k)) (f' := fun k => bk 5 w o (94 + 4 * k)) (fun k hk => bk_eq (n := 4) (q := 94 + 4 * k) (by rw [bst_r (b := 94) (k := k) (by decide)]; decide)) H h
    | 9, _, _, h => exact at_arr (f := fun k => bk 4 w o (95 + 4 * k)) (f' := fun k => bk 5 w o (95 + 4 * k)) (fun k hk => bk_eq (n := 4) (q := 95 + 4 * k) (by rw [bst_r (b := 95) (k := k) (by decide)]; decide)) H h
    | 10, _, _, h => exact at_arr (f := fun k => bk 4 w o (10 + k)) (f' := fun k => bk 5 w o (10 + k)) (fun k hk => bk_eq (n := 4) (q := 10 + k) (by rw [bst_holds hk]; decide)) H h

theorem cb_5 {G : Gc} {P P' : Nat → Row} {sp : Nat → Option Nat} {g : Nat} {w o : Row} (hg : g < 5) (hP : ∀ j, j ≠ g → P' j = P j) (h0 : P g = bk 5 w o) (h1 : P' g = bk 6 w o) : ups (cF G) (cct G P sp) (cct G P' sp) g 6 (.inl (G.ca 0, 8, .inl (va_cpy (fun j => o (92 + 4 * j)) (fun j => bk 5 w o (92 + 4 * j)) 0 0 8))) := by
  refine cu_w hg hP ?_ ?_
  · intro a H h
    rw [h1]
    exact at_arr (f' := fun k => bk 6 w o (92 + 4 * k)) (fun k hk => (cpy0 hk).trans (bk_t (n := 6) (w := w) (o := o) (k := 92 + 4 * k) (by rw [bst_r (b := 92) (k := k) (by decide)]; decide)).symm) H h
  · intro i' hi' hne a H h
    rw [h0] at h
    rw [h1]
    match i', hi', hne, h with
    | 0, _, _, h =>
      refine at_rfl ?_ H h
      simp only [wct]
      rw [bk_eq (n := 5) (q := 0) (by decide), bk_eq (n := 5) (q := 1) (by decide), bk_eq (n := 5) (q := 2) (by decide)]
    | 1, _, _, h => exact at_arr (f := fun k => bk 5 w o (20 + k)) (f' := fun k => bk 6 w o (20 + k)) (fun k hk => bk_eq (n := 5) (q := 20 + k) (by rw [bst_snow hk]; decide)) H h
    | 2, _, _, h => exact at_arr (f := fun k => bk 5 w o (56 + k)) (f' := fun k => bk 6 w o (56 + k)) (fun k hk => bk_eq (n := 5) (q := 56 + k) (by rw [bst_noise hk]; decide)) H h
    | 3, _, _, h => exact at_arr (f := fun k => bk 5 w o (3 + k)) (f' := fun k => bk 6 w o (3 + k)) (fun k hk => bk_eq (n := 5) (q := 3 + k) (by rw [bst_mouse hk]; decide)) H h
    | 4, _, _, h => exact at_arr (f := fun k => bk 5 w o (8 + k)) (f' := fun k => bk 6 w o (8 + k)) (fun k hk => bk_eq (n := 5) (q := 8 + k) (by rw [bst_owl hk]; decide)) H h
    | 5, _, _, h => exact h
    | 6, _, hne, _ => exact absurd rfl hne
    | 7, _, _, h => exact at_arr (f := fun k => bk 5 w o (93 + 4 * k)) (f' := fun k => bk 6 w o (93 + 4 * k)) (fun k hk => bk_eq (n := 5) (q := 93 + 4 * k) (by rw [bst_r (b := 93) (k := k) (by decide)]; decide)) H h
    | 8, _, _, h => exact at_arr (f := fun k => bk 5 w o (94 + 4 * k)) (f' := fun k => bk 6 w o (94 + 4 * k)) (fun k hk => bk_eq (n := 5) (q := 94 + 4 * k) (by rw [bst_r (b := 94) (k := k) (by decide)]; decide)) H h
    | 9, _, _, h => exact at_arr (f := fun k => bk 5 w o (95 + 4 * k)) (f' := fun k => bk 6 w o (95 + 4 * k)) (fun k hk => bk_eq (n := 5) (q := 95 + 4 * k) (by rw [bst_r (b := 95) (k := k) (by decide)]; decide)) H h
    | 10, _, _, h => exact at_arr (f := fun k => bk 5 w o (10 + k)) (f' := fun k => bk 6 w o (10 + k)) (fun k hk => bk_eq (n := 5) (q := 10 + k) (by rw [bst_holds hk]; decide)) H h

theorem cb_6 {G : Gc} {P P' : Nat → Row} {sp : Nat → Option Nat} {g : Nat} {w o : Row} (hg : g < 5) (hP : ∀ j, j ≠ g → P' j = P j) (h0 : P g = bk 6 w o) (h1 : P' g = bk 7 w o) : ups (cF G) (cct G P sp) (cct G P' sp) g 7 (.inl (G.ca 0, 8, .inl (va_cpy (fun j => o (93 + 4 * j)) (fun j => bk 6 w o (93 + 4 * j)) 0 0 8))) := by
  refine cu_w hg hP ?_ ?_
  · intro a H h
    rw [h1]
    exact at_arr (f' := fun k => bk 7 w o (93 + 4 * k)) (fun k hk => (cpy0 hk).trans (bk_t (n := 7) (w := w) (o := o) (k := 93 + 4 * k) (by rw [bst_r (b := 93) (k := k) (by decide)]; decide)).symm) H h
  · intro i' hi' hne a H h
    rw [h0] at h
    rw [h1]
    match i', hi', hne, h with
    | 0, _, _, h =>
      refine at_rfl ?_ H h
      simp only [wct]
      rw [bk_eq (n := 6) (q := 0) (by decide), bk_eq (n := 6) (q := 1) (by decide), bk_eq (n := 6) (q := 2) (by decide)]
    | 1, _, _, h => exact at_arr (f := fun k => bk 6 w o (20 + k)) (f' := fun k => bk 7 w o (20 + k)) (fun k hk => bk_eq (n := 6) (q := 20 + k) (by rw [bst_snow hk]; decide)) H h
    | 2, _, _, h => exact at_arr (f := fun k => bk 6 w o (56 + k)) (f' := fun k => bk 7 w o (56 + k)) (fun k hk => bk_eq (n := 6) (q := 56 + k) (by rw [bst_noise hk]; decide)) H h
    | 3, _, _, h => exact at_arr (f := fun k => bk 6 w o (3 + k)) (f' := fun k => bk 7 w o (3 + k)) (fun k hk => bk_eq (n := 6) (q := 3 + k) (by rw [bst_mouse hk]; decide)) H h
    | 4, _, _, h => exact at_arr (f := fun k => bk 6 w o (8 + k)) (f' := fun k => bk 7 w o (8 + k)) (fun k hk => bk_eq (n := 6) (q := 8 + k) (by rw [bst_owl hk]; decide)) H h
    | 5, _, _, h => exact h
    | 6, _, _, h => exact at_arr (f := fun k => bk 6 w o (92 + 4 * k)) (f' := fun k => bk 7 w o (92 + 4 * k)) (fun k hk => bk_eq (n := 6) (q := 92 + 4 * k) (by rw [bst_r (b := 92) (k := k) (by decide)]; decide)) H h
    | 7, _, hne, _ => exact absurd rfl hne
    | 8, _, _, h => exact at_arr (f := fun k => bk 6 w o (94 + 4 * k)) (f' := fun k => bk 7 w o (94 + 4 * k)) (fun k hk => bk_eq (n := 6) (q := 94 + 4 * k) (by rw [bst_r (b := 94) (k := k) (by decide)]; decide)) H h
    | 9, _, _, h => exact at_arr (f := fun k => bk 6 w o (95 + 4 * k)) (f' := fun k => bk 7 w o (95 + 4 * k)) (fun k hk => bk_eq (n := 6) (q := 95 + 4 * k) (by rw [bst_r (b := 95) (k := k) (by decide)]; decide)) H h
    | 10, _, _, h => exact at_arr (f := fun k => bk 6 w o (10 + k)) (f' := fun k => bk 7 w o (10 + k)) (fun k hk => bk_eq (n := 6) (q := 10 + k) (by rw [bst_holds hk]; decide)) H h

theorem cb_7 {G : Gc} {P P' : Nat → Row} {sp : Nat → Option Nat} {g : Nat} {w o : Row} (hg : g < 5) (hP : ∀ j, j ≠ g → P' j = P j) (h0 : P g = bk 7 w o) (h1 : P' g = bk 8 w o) : ups (cF G) (cct G P sp) (cct G P' sp) g 8 (.inl (G.ca 0, 8, .inl (va_cpy (fun j => o (94 + 4 * j)) (fun j => bk 7 w o (94 + 4 * j)) 0 0 8))) := by
  refine cu_w hg hP ?_ ?_
  · intro a H h
    rw [h1]
    exact at_arr (f' := fun k => bk 8 w o (94 + 4 * k)) (fun k hk => (cpy0 hk).trans (bk_t (n := 8) (w := w) (o := o) (k := 94 + 4 * k) (by rw [bst_r (b := 94) (k := k) (by decide)]; decide)).symm) H h
  · intro i' hi' hne a H h
    rw [h0] at h
    rw [h1]
    match i', hi', hne, h with
    | 0, _, _, h =>
      refine at_rfl ?_ H h
      simp only [wct]
      rw [bk_eq (n := 7) (q := 0) (by decide), bk_eq (n := 7) (q := 1) (by decide), bk_eq (n := 7) (q := 2) (by decide)]
    | 1, _, _, h => exact at_arr (f := fun k => bk 7 w o (20 + k)) (f' := fun k => bk 8 w o (20 + k)) (fun k hk => bk_eq (n := 7) (q := 20 + k) (by rw [bst_snow hk]; decide)) H h
    | 2, _, _, h => exact at_arr (f := fun k => bk 7 w o (56 + k)) (f' := fun k => bk 8 w o (56 + k)) (fun k hk => bk_eq (n := 7) (q := 56 + k) (by rw [bst_noise hk]; decide)) H h
    | 3, _, _, h => exact at_arr (f := fun k => bk 7 w o (3 + k)) (f' := fun k => bk 8 w o (3 + k)) (fun k hk => bk_eq (n := 7) (q := 3 + k) (by rw [bst_mouse hk]; decide)) H h
    | 4, _, _, h => exact at_arr (f := fun k => bk 7 w o (8 + k)) (f' := fun k => bk 8 w o (8 + k)) (fun k hk => bk_eq (n := 7) (q := 8 + k) (by rw [bst_owl hk]; decide)) H h
    | 5, _, _, h => exact h
    | 6, _, _, h => exact at_arr (f := fun k => bk 7 w o (92 + 4 * k)) (f' := fun k => bk 8 w o (92 + 4 * k)) (fun k hk => bk_eq (n := 7) (q := 92 + 4 * k) (by rw [bst_r (b := 92) (k := k) (by decide)]; decide)) H h
    | 7, _, _, h => exact at_arr (f := fun k => bk 7 w o (93 + 4 * k)) (f' := fun k => bk 8 w o (93 + 4 * k)) (fun k hk => bk_eq (n := 7) (q := 93 + 4 * k) (by rw [bst_r (b := 93) (k := k) (by decide)]; decide)) H h
    | 8, _, hne, _ => exact absurd rfl hne
    | 9, _, _, h => exact at_arr (f := fun k => bk 7 w o (95 + 4 * k)) (f' := fun k => bk 8 w o (95 + 4 * k)) (fun k hk => bk_eq (n := 7) (q := 95 + 4 * k) (by rw [bst_r (b := 95) (k := k) (by decide)]; decide)) H h
    | 10, _, _, h => exact at_arr (f := fun k => bk 7 w o (10 + k)) (f' := fun k => bk 8 w o (10 + k)) (fun k hk => bk_eq (n := 7) (q := 10 + k) (by rw [bst_holds hk]; decide)) H h

theorem cb_8 {G : Gc} {P P' : Nat → Row} {sp : Nat → Option Nat} {g : Nat} {w o : Row} (hg : g < 5) (hP : ∀ j, j ≠ g → P' j = P j) (h0 : P g = bk 8 w o) (h1 : P' g = bk 9 w o) : ups (cF G) (cct G P sp) (cct G P' sp) g 9 (.inl (G.ca 0, 8, .inl (va_cpy (fun j => o (95 + 4 * j)) (fun j => bk 8 w o (95 + 4 * j)) 0 0 8))) := by
  refine cu_w hg hP ?_ ?_
  · intro a H h
    rw [h1]
    exact at_arr (f' := fun k => bk 9 w o (95 + 4 * k)) (fun k hk => (cpy0 hk).trans (bk_t (n := 9) (w := w) (o := o) (k := 95 + 4 * k) (by rw [bst_r (b := 95) (k := k) (by decide)]; decide)).symm) H h
  · intro i' hi' hne a H h
    rw [h0] at h
    rw [h1]
    match i', hi', hne, h with
    | 0, _, _, h =>
      refine at_rfl ?_ H h
      simp only [wct]
      rw [bk_eq (n := 8) (q := 0) (by decide), bk_eq (n := 8) (q := 1) (by decide), bk_eq (n := 8) (q := 2) (by decide)]
    | 1, _, _, h => exact at_arr (f := fun k => bk 8 w o (20 + k)) (f' := fun k => bk 9 w o (20 + k)) (fun k hk => bk_eq (n := 8) (q := 20 + k) (by rw [bst_snow hk]; decide)) H h
    | 2, _, _, h => exact at_arr (f := fun k => bk 8 w o (56 + k)) (f' := fun k => bk 9 w o (56 + k)) (fun k hk => bk_eq (n := 8) (q := 56 + k) (by rw [bst_noise hk]; decide)) H h
    | 3, _, _, h => exact at_arr (f := fun k => bk 8 w o (3 + k)) (f' := fun k => bk 9 w o (3 + k)) (fun k hk => bk_eq (n := 8) (q := 3 + k) (by rw [bst_mouse hk]; decide)) H h
    | 4, _, _, h => exact at_arr (f := fun k => bk 8 w o (8 + k)) (f' := fun k => bk 9 w o (8 + k)) (fun k hk => bk_eq (n := 8) (q := 8 + k) (by rw [bst_owl hk]; decide)) H h
    | 5, _, _, h => exact h
    | 6, _, _, h => exact at_arr (f := fun k => bk 8 w o (92 + 4 * k)) (f' := fun k => bk 9 w o (92 + 4 * k)) (fun k hk => bk_eq (n := 8) (q := 92 + 4 * k) (by rw [bst_r (b := 92) (k := k) (by decide)]; decide)) H h
    | 7, _, _, h => exact at_arr (f := fun k => bk 8 w o (93 + 4 * k)) (f' := fun k => bk 9 w o (93 + 4 * k)) (fun k hk => bk_eq (n := 8) (q := 93 + 4 * k) (by rw [bst_r (b := 93) (k := k) (by decide)]; decide)) H h
    | 8, _, _, h => exact at_arr (f := fun k => bk 8 w o (94 + 4 * k)) (f' := fun k => bk 9 w o (94 + 4 * k)) (fun k hk => bk_eq (n := 8) (q := 94 + 4 * k) (by rw [bst_r (b := 94) (k := k) (by decide)]; decide)) H h
    | 9, _, hne, _ => exact absurd rfl hne
    | 10, _, _, h => exact at_arr (f := fun k => bk 8 w o (10 + k)) (f' := fun k => bk 9 w o (10 + k)) (fun k hk => bk_eq (n := 8) (q := 10 + k) (by rw [bst_holds hk]; decide)) H h

theorem cb_9 {G : Gc} {P P' : Nat → Row} {sp : Nat → Option Nat} {g : Nat} {w o : Row} (hg : g < 5) (hP : ∀ j, j ≠ g → P' j = P j) (h0 : P g = bk 9 w o) (h1 : P' g = bk 10 w o) : ups (cF G) (cct G P sp) (cct G P' sp) g 0 (.inr (0, [.ref (G.ad g 1), .ref (G.ad g 2), .ref (G.ad g 3), .ref (G.ad g 4), .int (bk 9 w o 1), .ref (G.ad g 5), .int (o 0), .int (bk 9 w o 2), .ref (G.ad g 10)])) := by
  refine cu_w hg hP ?_ ?_
  · intro a H h
    rw [h1]
    refine at_rfl ?_ H h
    simp only [wct]
    rw [bk_t (n := 10) (k := 0) (by decide), bk_eq (n := 9) (q := 1) (by decide), bk_eq (n := 9) (q := 2) (by decide)]
  · intro i' hi' hne a H h
    rw [h0] at h
    rw [h1]
    match i', hi', hne, h with
    | 0, _, hne, _ => exact absurd rfl hne
    | 1, _, _, h => exact at_arr (f := fun k => bk 9 w o (20 + k)) (f' := fun k => bk 10 w o (20 + k)) (fun k hk => bk_eq (n := 9) (q := 20 + k) (by rw [bst_snow hk]; decide)) H h
    | 2, _, _, h => exact at_arr (f := fun k => bk 9 w o (56 + k)) (f' := fun k => bk 10 w o (56 + k)) (fun k hk => bk_eq (n := 9) (q := 56 + k) (by rw [bst_noise hk]; decide)) H h
    | 3, _, _, h => exact at_arr (f := fun k => bk 9 w o (3 + k)) (f' := fun k => bk 10 w o (3 + k)) (fun k hk => bk_eq (n := 9) (q := 3 + k) (by rw [bst_mouse hk]; decide)) H h
    | 4, _, _, h => exact at_arr (f := fun k => bk 9 w o (8 + k)) (f' := fun k => bk 10 w o (8 + k)) (fun k hk => bk_eq (n := 9) (q := 8 + k) (by rw [bst_owl hk]; decide)) H h
    | 5, _, _, h => exact h
    | 6, _, _, h => exact at_arr (f := fun k => bk 9 w o (92 + 4 * k)) (f' := fun k => bk 10 w o (92 + 4 * k)) (fun k hk => bk_eq (n := 9) (q := 92 + 4 * k) (by rw [bst_r (b := 92) (k := k) (by decide)]; decide)) H h
    | 7, _, _, h => exact at_arr (f := fun k => bk 9 w o (93 + 4 * k)) (f' := fun k => bk 10 w o (93 + 4 * k)) (fun k hk => bk_eq (n := 9) (q := 93 + 4 * k) (by rw [bst_r (b := 93) (k := k) (by decide)]; decide)) H h
    | 8, _, _, h => exact at_arr (f := fun k => bk 9 w o (94 + 4 * k)) (f' := fun k => bk 10 w o (94 + 4 * k)) (fun k hk => bk_eq (n := 9) (q := 94 + 4 * k) (by rw [bst_r (b := 94) (k := k) (by decide)]; decide)) H h
    | 9, _, _, h => exact at_arr (f := fun k => bk 9 w o (95 + 4 * k)) (f' := fun k => bk 10 w o (95 + 4 * k)) (fun k hk => bk_eq (n := 9) (q := 95 + 4 * k) (by rw [bst_r (b := 95) (k := k) (by decide)]; decide)) H h
    | 10, _, _, h => exact at_arr (f := fun k => bk 9 w o (10 + k)) (f' := fun k => bk 10 w o (10 + k)) (fun k hk => bk_eq (n := 9) (q := 10 + k) (by rw [bst_holds hk]; decide)) H h

theorem cb_10 {G : Gc} {P P' : Nat → Row} {sp : Nat → Option Nat} {g : Nat} {w o : Row} (hg : g < 5) (hP : ∀ j, j ≠ g → P' j = P j) (h0 : P g = bk 10 w o) (h1 : P' g = bk 11 w o) : ups (cF G) (cct G P sp) (cct G P' sp) g 0 (.inr (0, [.ref (G.ad g 1), .ref (G.ad g 2), .ref (G.ad g 3), .ref (G.ad g 4), .int (bk 10 w o 1), .ref (G.ad g 5), .int (bk 10 w o 0), .int (o 2), .ref (G.ad g 10)])) := by
  refine cu_w hg hP ?_ ?_
  · intro a H h
    rw [h1]
    refine at_rfl ?_ H h
    simp only [wct]
    rw [bk_t (n := 11) (k := 2) (by decide), bk_eq (n := 10) (q := 0) (by decide), bk_eq (n := 10) (q := 1) (by decide)]
  · intro i' hi' hne a H h
    rw [h0] at h
    rw [h1]
    match i', hi', hne, h with
    | 0, _, hne, _ => exact absurd rfl hne
    | 1, _, _, h => exact at_arr (f := fun k => bk 10 w o (20 + k)) (f' := fun k => bk 11 w o (20 + k)) (fun k hk => bk_eq (n := 10) (q := 20 + k) (by rw [bst_snow hk]; decide)) H h
    | 2, _, _, h => exact at_arr (f := fun k => bk 10 w o (56 + k)) (f' := fun k => bk 11 w o (56 + k)) (fun k hk => bk_eq (n := 10) (q := 56 + k) (by rw [bst_noise hk]; decide)) H h
    | 3, _, _, h => exact at_arr (f := fun k => bk 10 w o (3 + k)) (f' := fun k => bk 11 w o (3 + k)) (fun k hk => bk_eq (n := 10) (q := 3 + k) (by rw [bst_mouse hk]; decide)) H h
    | 4, _, _, h => exact at_arr (f := fun k => bk 10 w o (8 + k)) (f' := fun k => bk 11 w o (8 + k)) (fun k hk => bk_eq (n := 10) (q := 8 + k) (by rw [bst_owl hk]; decide)) H h
    | 5, _, _, h => exact h
    | 6, _, _, h => exact at_arr (f := fun k => bk 10 w o (92 + 4 * k)) (f' := fun k => bk 11 w o (92 + 4 * k)) (fun k hk => bk_eq (n := 10) (q := 92 + 4 * k) (by rw [bst_r (b := 92) (k := k) (by decide)]; decide)) H h
    | 7, _, _, h => exact at_arr (f := fun k => bk 10 w o (93 + 4 * k)) (f' := fun k => bk 11 w o (93 + 4 * k)) (fun k hk => bk_eq (n := 10) (q := 93 + 4 * k) (by rw [bst_r (b := 93) (k := k) (by decide)]; decide)) H h
    | 8, _, _, h => exact at_arr (f := fun k => bk 10 w o (94 + 4 * k)) (f' := fun k => bk 11 w o (94 + 4 * k)) (fun k hk => bk_eq (n := 10) (q := 94 + 4 * k) (by rw [bst_r (b := 94) (k := k) (by decide)]; decide)) H h
    | 9, _, _, h => exact at_arr (f := fun k => bk 10 w o (95 + 4 * k)) (f' := fun k => bk 11 w o (95 + 4 * k)) (fun k hk => bk_eq (n := 10) (q := 95 + 4 * k) (by rw [bst_r (b := 95) (k := k) (by decide)]; decide)) H h
    | 10, _, _, h => exact at_arr (f := fun k => bk 10 w o (10 + k)) (f' := fun k => bk 11 w o (10 + k)) (fun k hk => bk_eq (n := 10) (q := 10 + k) (by rw [bst_holds hk]; decide)) H h

theorem cb_11 {G : Gc} {P P' : Nat → Row} {sp : Nat → Option Nat} {g : Nat} {w o : Row} (hg : g < 5) (hP : ∀ j, j ≠ g → P' j = P j) (h0 : P g = bk 11 w o) (h1 : P' g = bk 12 w o) : ups (cF G) (cct G P sp) (cct G P' sp) g 10 (.inl (G.ca 0, 10, .inl (va_cpy (fun j => o (10 + j)) (fun j => bk 11 w o (10 + j)) 0 0 10))) := by
  refine cu_w hg hP ?_ ?_
  · intro a H h
    rw [h1]
    exact at_arr (f' := fun k => bk 12 w o (10 + k)) (fun k hk => (cpy0 hk).trans (bk_t (n := 12) (w := w) (o := o) (k := 10 + k) (by rw [bst_holds hk]; decide)).symm) H h
  · intro i' hi' hne a H h
    rw [h0] at h
    rw [h1]
    match i', hi', hne, h with
    | 0, _, _, h =>
      refine at_rfl ?_ H h
      simp only [wct]
      rw [bk_eq (n := 11) (q := 0) (by decide), bk_eq (n := 11) (q := 1) (by decide), bk_eq (n := 11) (q := 2) (by decide)]
    | 1, _, _, h => exact at_arr (f := fun k => bk 11 w o (20 + k)) (f' := fun k => bk 12 w o (20 + k)) (fun k hk => bk_eq (n := 11) (q := 20 + k) (by rw [bst_snow hk]; decide)) H h
    | 2, _, _, h => exact at_arr (f := fun k => bk 11 w o (56 + k)) (f' := fun k => bk 12 w o (56 + k)) (fun k hk => bk_eq (n := 11) (q := 56 + k) (by rw [bst_noise hk]; decide)) H h
    | 3, _, _, h => exact at_arr (f := fun k => bk 11 w o (3 + k)) (f' := fun k => bk 12 w o (3 + k)) (fun k hk => bk_eq (n := 11) (q := 3 + k) (by rw [bst_mouse hk]; decide)) H h
    | 4, _, _, h => exact at_arr (f := fun k => bk 11 w o (8 + k)) (f' := fun k => bk 12 w o (8 + k)) (fun k hk => bk_eq (n := 11) (q := 8 + k) (by rw [bst_owl hk]; decide)) H h
    | 5, _, _, h => exact h
    | 6, _, _, h => exact at_arr (f := fun k => bk 11 w o (92 + 4 * k)) (f' := fun k => bk 12 w o (92 + 4 * k)) (fun k hk => bk_eq (n := 11) (q := 92 + 4 * k) (by rw [bst_r (b := 92) (k := k) (by decide)]; decide)) H h
    | 7, _, _, h => exact at_arr (f := fun k => bk 11 w o (93 + 4 * k)) (f' := fun k => bk 12 w o (93 + 4 * k)) (fun k hk => bk_eq (n := 11) (q := 93 + 4 * k) (by rw [bst_r (b := 93) (k := k) (by decide)]; decide)) H h
    | 8, _, _, h => exact at_arr (f := fun k => bk 11 w o (94 + 4 * k)) (f' := fun k => bk 12 w o (94 + 4 * k)) (fun k hk => bk_eq (n := 11) (q := 94 + 4 * k) (by rw [bst_r (b := 94) (k := k) (by decide)]; decide)) H h
    | 9, _, _, h => exact at_arr (f := fun k => bk 11 w o (95 + 4 * k)) (f' := fun k => bk 12 w o (95 + 4 * k)) (fun k hk => bk_eq (n := 11) (q := 95 + 4 * k) (by rw [bst_r (b := 95) (k := k) (by decide)]; decide)) H h
    | 10, _, hne, _ => exact absurd rfl hne

theorem cc_cong {G : Gc} {P P' : Nat → Row} {sp : Nat → Option Nat} {g : Nat} {H0 H : Heap} {locs : List Loc} (hg : g < 5) (hP : ∀ j, j ≠ g → P' j = P j) (h : ∀ k, k < 124 → P g k = P' g k) (hC : fC (cF G) (cct G P sp) H0 H locs) : fC (cF G) (cct G P' sp) H0 H locs := by
  refine ⟨fun k x hk => ?_, hC.2⟩
  obtain ⟨i, hi, rfl⟩ := fl_inv hk
  have h9 := hC.1 k ((cF G).ad i.1 i.2, cct G P sp i.1 i.2) (by simp only [fl, List.getElem?_map, hi]; rfl)
  have hc := cin_inv (List.mem_of_getElem? hi)
  obtain ⟨a, b⟩ := i
  by_cases ha : a = g
  · subst ha
    have hb : b < 11 := (chas_lt hc).2
    rw [cct_w hg] at h9 ⊢
    match b, hb, h9 with
    | 0, _, h9 =>
      refine at_rfl ?_ H h9
      simp only [wct]
      rw [h 0 (by decide), h 1 (by decide), h 2 (by decide)]
    | 1, _, h9 => exact at_arr (f := fun k => P a (20 + k)) (f' := fun k => P' a (20 + k)) (fun k hk => h (20 + k) (by omega)) H h9
    | 2, _, h9 => exact at_arr (f := fun k => P a (56 + k)) (f' := fun k => P' a (56 + k)) (fun k hk => h (56 + k) (by omega)) H h9
    | 3, _, h9 => exact at_arr (f := fun k => P a (3 + k)) (f' := fun k => P' a (3 + k)) (fun k hk => h (3 + k) (by omega)) H h9
    | 4, _, h9 => exact at_arr (f := fun k => P a (8 + k)) (f' := fun k => P' a (8 + k)) (fun k hk => h (8 + k) (by omega)) H h9
    | 5, _, h9 => exact h9
    | 6, _, h9 => exact at_arr (f := fun k => P a (92 + 4 * k)) (f' := fun k => P' a (92 + 4 * k)) (fun k hk => h (92 + 4 * k) (by omega)) H h9
    | 7, _, h9 => exact at_arr (f := fun k => P a (93 + 4 * k)) (f' := fun k => P' a (93 + 4 * k)) (fun k hk => h (93 + 4 * k) (by omega)) H h9
    | 8, _, h9 => exact at_arr (f := fun k => P a (94 + 4 * k)) (f' := fun k => P' a (94 + 4 * k)) (fun k hk => h (94 + 4 * k) (by omega)) H h9
    | 9, _, h9 => exact at_arr (f := fun k => P a (95 + 4 * k)) (f' := fun k => P' a (95 + 4 * k)) (fun k hk => h (95 + 4 * k) (by omega)) H h9
    | 10, _, h9 => exact at_arr (f := fun k => P a (10 + k)) (f' := fun k => P' a (10 + k)) (fun k hk => h (10 + k) (by omega)) H h9
  · have e : cct G P' sp a b = cct G P sp a b := by
      unfold cct
      rw [hP 5 (by omega), hP 6 (by omega), hP 7 (by omega), hP 8 (by omega), hP a ha]
    rw [e]
    exact h9
theorem bk_all {w o : Row} : ∀ k, k < 124 → bk 12 w o k = o k := fun k _ => bk_t (bst_le k)
