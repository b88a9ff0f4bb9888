theorem nn_iastq {p : Program} {l : Launch} {e : Env} {R : Room} {s : State} {m : MethodId} {args : Array Value} {below : List Frame} {meth : Method} {c : Code} {H : Heap} {locs : List Loc} {cells slots : Nat} {Q : State → Prop} {cc : ByteArray} {pc : Nat} {ls : Array Slot} {rest : List Value} {X : NX} {base a : Nat} {w w1 : va_W} {t0 n q : Nat} {cA : ClassId} {f : Nat → Int32} (hx : p.tables.exec = Jvm.exec) (hb : c.code = cc) (hX : nX X base s) (hC : nC X base w s.heap H locs) (q0 : Nat) (ha : w[q0]? = some (a, .inl (cA, n, .inl f))) (ht : X.tys[t0]? = some (cA, .int)) {i x : Int32} (hin : vp_in i n) (hq : i.toNatClampNeg = q) (hw : w.set q0 (a, .inl (cA, n, .inl (upd f q x))) = w1) (hdg : decode cc pc = .ok (.iastore, 1))
    (kk : ∀ (H1 : Heap) (locs1 : List Loc), nC X base w1 s.heap H1 locs1 → W p l e R s m args below meth c H1 locs1 cells slots Q (F0 m (pc + 1) ls rest)) : W p l e R s m args below meth c H locs cells slots Q (F0 m pc ls (.int x :: .int i :: .ref a :: rest)) := by
  subst hq
  exact nn_iast hx hb hX hC q0 ha ht hin hw hdg kk
abbrev xC (ca : Nat → ClassId) (D : va_G) (adK adV : Nat → Nat) : NX := (clC, ctys ca, D, adK, adV)
abbrev ac (a : Nat) (u : Nat → Nat) : Nat → Nat := fun i => match i with
  | 0 => a
  | i + 1 => u i
def hlow (i : Nat) : Nat → Int32 := fun k => if k < i then -1 else 0
theorem hlow_s (i : Nat) : upd (hlow i) i (-1) = hlow (i + 1) := by
  funext k
  by_cases e : k = i
  · rw [e, upd_s]
    exact (if_pos (Nat.lt_succ_self i)).symm
  · rw [upd_n e]
    unfold hlow
    by_cases c : k < i
    · rw [if_pos c, if_pos (by omega)]
    · rw [if_neg c, if_neg (by omega)]
abbrev WC (ca : Nat → ClassId) (a : Nat → Nat) : va_W := [(a 0, .inr (0, [.ref (a 1), .ref (a 2), .ref (a 3), .ref (a 4), .int 0, .ref (a 5), .int 0, .int 1, .ref (a 10)])), (a 1, .inl (ca 0, 36, .inl (fun _ => 0))), (a 2, .inl (ca 0, 36, .inl (fun _ => 0))), (a 3, .inl (ca 0, 5, .inl (upd (upd (upd (upd (upd (fun _ => 0) 0 0) 1 1) 2 3) 3 2) 4 0))), (a 4, .inl (ca 0, 2, .inl (upd (upd (fun _ => 0) 0 14) 1 0))), (a 5, .inl (ca 1, 4, .inr (.inr (.inr (.inr (fun k => some (a 5 + 1 + k))))))), (a 5 + 1 + 0, .inl (ca 0, 8, .inl (fun _ => 0))), (a 5 + 1 + 1, .inl (ca 0, 8, .inl (fun _ => 0))), (a 5 + 1 + 2, .inl (ca 0, 8, .inl (fun _ => 0))), (a 5 + 1 + 3, .inl (ca 0, 8, .inl (fun _ => 0))), (a 10, .inl (ca 0, 10, .inl (hlow 10)))]
set_option maxRecDepth 100000 in
theorem i_X4_init {l : Launch} {D : va_G} {ca : Nat → ClassId} {adK adV : Nat → Nat} {base : Nat} {w : va_W} {a : Nat}  : Cn l yX4_init (ws_ yX4_init cX4_init 2 none) ({ frames := 1, cells := 10, slots := 125, locals := 13 }) (xC ca D adK adV) base [.ref (a)] (w ++ [(a, .inr (0, [.null, .null, .null, .null, .int 0, .null, .int 0, .int 0, .null]))]) (fun _ : Nat → Nat => none) (fun u => w ++ WC ca (ac a u)) 10 125 := by
  refine Cn.start (by decide) (Nat.le_of_ble_eq_true rfl) ?_
  intro p e s m below meth c hf hin2 hX hC ls hl
  obtain ⟨hx, hb, hr, hml, hown, hts, hlocks⟩ := hf
  have hl : lv_has ls 2 [(0, .ref (a))] := hl
  have hown : s.vm.findClass "OwlEars$World" = some m.cls := hown
  have hin2 : meth.name = "<init>" := hin2
  refine lv_aload_n hx hb dX4_init_0 rfl (lv_at hl 0 rfl) ?_
  refine W.objInit hx hb hown (hts _ q235) (hts _ q139) (hts _ q140) rfl (by rw [hml]; exact hl.1) rfl dX4_init_1 (Nat.le_of_ble_eq_true rfl) (Nat.le_of_ble_eq_true rfl) ?_
  refine W.eq (g2 := F0 m 4 ls []) rfl ?_
  refine lv_aload_n hx hb dX4_init_4 rfl (lv_at hl 0 rfl) ?_
  refine lv_bipush (v := 36) hx hb dX4_init_5 rfl ?_
  refine nn_newa (atype := .int) (t0 := 0) (cA := ca 0) (N' := 36) (a0 := (36, .inl (fun _ => 0))) hx hb hts hX hC q284 rfl rfl (fun _ => rfl) (by decide) rfl (by decide) (Nat.le_of_ble_eq_true rfl) (Nat.le_of_ble_eq_true rfl) dX4_init_7 (fun q1 H hC => ?_)
  have hC : nC (xC ca D adK adV) base (w ++ [(a, .inr (0, [.null, .null, .null, .null, .int 0, .null, .int 0, .int 0, .null])), (q1, .inl (ca 0, 36, .inl (fun _ => 0)))]) s.heap H _ := hC
  refine nn_putF (C := RX4) (T := TX4) (N := 9) (ci := 0) (w1 := w ++ [(a, .inr (0, [.ref (q1), .null, .null, .null, .int 0, .null, .int 0, .int 0, .null])), (q1, .inl (ca 0, 36, .inl (fun _ => 0)))]) hx hb hown hts hX hC in_X4 tyX4 tyX4_ok nmX4 (w.length + 0) (nth_r (w := w) (k := 0) rfl) rfl 0 (by decide) q238 (fun _ h => h) rfl hin2 rfl rfl rfl (Nat.le_of_ble_eq_true rfl) set_r dX4_init_9 (fun H locs hC => ?_)
  refine lv_aload_n hx hb dX4_init_12 rfl (lv_at hl 0 rfl) ?_
  refine lv_bipush (v := 36) hx hb dX4_init_13 rfl ?_
  refine nn_newa (atype := .int) (t0 := 0) (cA := ca 0) (N' := 36) (a0 := (36, .inl (fun _ => 0))) hx hb hts hX hC q284 rfl rfl (fun _ => rfl) (by decide) rfl (by decide) (Nat.le_of_ble_eq_true rfl) (Nat.le_of_ble_eq_true rfl) dX4_init_15 (fun q2 H hC => ?_)
  have hC : nC (xC ca D adK adV) base (w ++ [(a, .inr (0, [.ref (q1), .null, .null, .null, .int 0, .null, .int 0, .int 0, .null])), (q1, .inl (ca 0, 36, .inl (fun _ => 0))), (q2, .inl (ca 0, 36, .inl (fun _ => 0)))]) s.heap H _ := hC
  refine nn_putF (C := RX4) (T := TX4) (N := 9) (ci := 0) (w1 := w ++ [(a, .inr (0, [.ref (q1), .ref (q2), .null, .null, .int 0, .null, .int 0, .int 0, .null])), (q1, .inl (ca 0, 36, .inl (fun _ => 0))), (q2, .inl (ca 0, 36, .inl (fun _ => 0)))]) hx hb hown hts hX hC in_X4 tyX4 tyX4_ok nmX4 (w.length + 0) (nth_r (w := w) (k := 0) rfl) rfl 1 (by decide) q241 (fun _ h => h) rfl hin2 rfl rfl rfl (Nat.le_of_ble_eq_true rfl) set_r dX4_init_17 (fun H locs hC => ?_)
  refine lv_aload_n hx hb dX4_init_20 rfl (lv_at hl 0 rfl) ?_
  refine lv_iconst (v := 5) hx hb dX4_init_21 rfl ?_
  refine nn_newa (atype := .int) (t0 := 0) (cA := ca 0) (N' := 5) (a0 := (5, .inl (fun _ => 0))) hx hb hts hX hC q284 rfl rfl (fun _ => rfl) (by decide) rfl (by decide) (Nat.le_of_ble_eq_true rfl) (Nat.le_of_ble_eq_true rfl) dX4_init_22 (fun q3 H hC => ?_)
  have hC : nC (xC ca D adK adV) base (w ++ [(a, .inr (0, [.ref (q1), .ref (q2), .null, .null, .int 0, .null, .int 0, .int 0, .null])), (q1, .inl (ca 0, 36, .inl (fun _ => 0))), (q2, .inl (ca 0, 36, .inl (fun _ => 0))), (q3, .inl (ca 0, 5, .inl (fun _ => 0)))]) s.heap H _ := hC
  refine lv_dup hx hb dX4_init_24 rfl ?_
  refine lv_iconst (v := 0) hx hb dX4_init_25 rfl ?_
  refine lv_iconst (v := 0) hx hb dX4_init_26 rfl ?_
  refine nn_iast (t0 := 0) (w1 := w ++ [(a, .inr (0, [.ref (q1), .ref (q2), .null, .null, .int 0, .null, .int 0, .int 0, .null])), (q1, .inl (ca 0, 36, .inl (fun _ => 0))), (q2, .inl (ca 0, 36, .inl (fun _ => 0))), (q3, .inl (ca 0, 5, .inl (upd (fun _ => 0) 0 0)))]) hx hb hX hC (w.length + 3) (nth_r (w := w) (k := 3) rfl) rfl (vin_b rfl) set_r dX4_init_27 (fun H locs hC => ?_)
  refine lv_dup hx hb dX4_init_28 rfl ?_
  refine lv_iconst (v := 1) hx hb dX4_init_29 rfl ?_
  refine lv_iconst (v := 1) hx hb dX4_init_30 rfl ?_
  refine nn_iast (t0 := 0) (w1 := w ++ [(a, .inr (0, [.ref (q1), .ref (q2), .null, .null, .int 0, .null, .int 0, .int 0, .null])), (q1, .inl (ca 0, 36, .inl (fun _ => 0))), (q2, .inl (ca 0, 36, .inl (fun _ => 0))), (q3, .inl (ca 0, 5, .inl (upd (upd (fun _ => 0) 0 0) 1 1)))]) hx hb hX hC (w.length + 3) (nth_r (w := w) (k := 3) rfl) rfl (vin_b rfl) set_r dX4_init_31 (fun H locs hC => ?_)
  refine lv_dup hx hb dX4_init_32 rfl ?_
  refine lv_iconst (v := 2) hx hb dX4_init_33 rfl ?_
  refine lv_iconst (v := 3) hx hb dX4_init_34 rfl ?_
  refine nn_iast (t0 := 0) (w1 := w ++ [(a, .inr (0, [.ref (q1), .ref (q2), .null, .null, .int 0, .null, .int 0, .int 0, .null])), (q1, .inl (ca 0, 36, .inl (fun _ => 0))), (q2, .inl (ca 0, 36, .inl (fun _ => 0))), (q3, .inl (ca 0, 5, .inl (upd (upd (upd (fun _ => 0) 0 0) 1 1) 2 3)))]) hx hb hX hC (w.length + 3) (nth_r (w := w) (k := 3) rfl) rfl (vin_b rfl) set_r dX4_init_35 (fun H locs hC => ?_)
  refine lv_dup hx hb dX4_init_36 rfl ?_
  refine lv_iconst (v := 3) hx hb dX4_init_37 rfl ?_
  refine lv_iconst (v := 2) hx hb dX4_init_38 rfl ?_
  refine nn_iast (t0 := 0) (w1 := w ++ [(a, .inr (0, [.ref (q1), .ref (q2), .null, .null, .int 0, .null, .int 0, .int 0, .null])), (q1, .inl (ca 0, 36, .inl (fun _ => 0))), (q2, .inl (ca 0, 36, .inl (fun _ => 0))), (q3, .inl (ca 0, 5, .inl (upd (upd (upd (upd (fun _ => 0) 0 0) 1 1) 2 3) 3 2)))]) hx hb hX hC (w.length + 3) (nth_r (w := w) (k := 3) rfl) rfl (vin_b rfl) set_r dX4_init_39 (fun H locs hC => ?_)
  refine lv_dup hx hb dX4_init_40 rfl ?_
  refine lv_iconst (v := 4) hx hb dX4_init_41 rfl ?_
  refine lv_iconst (v := 0) hx hb dX4_init_42 rfl ?_
  refine nn_iast (t0 := 0) (w1 := w ++ [(a, .inr (0, [.ref (q1), .ref (q2), .null, .null, .int 0, .null, .int 0, .int 0, .null])), (q1, .inl (ca 0, 36, .inl (fun _ => 0))), (q2, .inl (ca 0, 36, .inl (fun _ => 0))), (q3, .inl (ca 0, 5, .inl (upd (upd (upd (upd (upd (fun _ => 0) 0 0) 1 1) 2 3) 3 2) 4 0)))]) hx hb hX hC (w.length + 3) (nth_r (w := w) (k := 3) rfl) rfl (vin_b rfl) set_r dX4_init_43 (fun H locs hC => ?_)
  refine nn_putF (C := RX4) (T := TX4) (N := 9) (ci := 0) (w1 := w ++ [(a, .inr (0, [.ref (q1), .ref (q2), .ref (q3), .null, .int 0, .null, .int 0, .int 0, .null])), (q1, .inl (ca 0, 36, .inl (fun _ => 0))), (q2, .inl (ca 0, 36, .inl (fun _ => 0))), (q3, .inl (ca 0, 5, .inl (upd (upd (upd (upd (upd (fun _ => 0) 0 0) 1 1) 2 3) 3 2) 4 0)))]) hx hb hown hts hX hC in_X4 tyX4 tyX4_ok nmX4 (w.length + 0) (nth_r (w := w) (k := 0) rfl) rfl 2 (by decide) q244 (fun _ h => h) rfl hin2 rfl rfl rfl (Nat.le_of_ble_eq_true rfl) set_r dX4_init_44 (fun H locs hC => ?_)
  refine lv_aload_n hx hb dX4_init_47 rfl (lv_at hl 0 rfl) ?_
  refine lv_iconst (v := 2) hx hb dX4_init_48 rfl ?_
  refine nn_newa (atype := .int) (t0 := 0) (cA := ca 0) (N' := 2) (a0 := (2, .inl (fun _ => 0))) hx hb hts hX hC q284 rfl rfl (fun _ => rfl) (by decide) rfl (by decide) (Nat.le_of_ble_eq_true rfl) (Nat.le_of_ble_eq_true rfl) dX4_init_49 (fun q4 H hC => ?_)
  have hC : nC (xC ca D adK adV) base (w ++ [(a, .inr (0, [.ref (q1), .ref (q2), .ref (q3), .null, .int 0, .null, .int 0, .int 0, .null])), (q1, .inl (ca 0, 36, .inl (fun _ => 0))), (q2, .inl (ca 0, 36, .inl (fun _ => 0))), (q3, .inl (ca 0, 5, .inl (upd (upd (upd (upd (upd (fun _ => 0) 0 0) 1 1) 2 3) 3 2) 4 0))), (q4, .inl (ca 0, 2, .inl (fun _ => 0)))]) s.heap H _ := hC
  refine lv_dup hx hb dX4_init_51 rfl ?_
  refine lv_iconst (v := 0) hx hb dX4_init_52 rfl ?_
  refine lv_bipush (v := 14) hx hb dX4_init_53 rfl ?_
  refine nn_iast (t0 := 0) (w1 := w ++ [(a, .inr (0, [.ref (q1), .ref (q2), .ref (q3), .null, .int 0, .null, .int 0, .int 0, .null])), (q1, .inl (ca 0, 36, .inl (fun _ => 0))), (q2, .inl (ca 0, 36, .inl (fun _ => 0))), (q3, .inl (ca 0, 5, .inl (upd (upd (upd (upd (upd (fun _ => 0) 0 0) 1 1) 2 3) 3 2) 4 0))), (q4, .inl (ca 0, 2, .inl (upd (fun _ => 0) 0 14)))]) hx hb hX hC (w.length + 4) (nth_r (w := w) (k := 4) rfl) rfl (vin_b rfl) set_r dX4_init_55 (fun H locs hC => ?_)
  refine lv_dup hx hb dX4_init_56 rfl ?_
  refine lv_iconst (v := 1) hx hb dX4_init_57 rfl ?_
  refine lv_iconst (v := 0) hx hb dX4_init_58 rfl ?_
  refine nn_iast (t0 := 0) (w1 := w ++ [(a, .inr (0, [.ref (q1), .ref (q2), .ref (q3), .null, .int 0, .null, .int 0, .int 0, .null])), (q1, .inl (ca 0, 36, .inl (fun _ => 0))), (q2, .inl (ca 0, 36, .inl (fun _ => 0))), (q3, .inl (ca 0, 5, .inl (upd (upd (upd (upd (upd (fun _ => 0) 0 0) 1 1) 2 3) 3 2) 4 0))), (q4, .inl (ca 0, 2, .inl (upd (upd (fun _ => 0) 0 14) 1 0)))]) hx hb hX hC (w.length + 4) (nth_r (w := w) (k := 4) rfl) rfl (vin_b rfl) set_r dX4_init_59 (fun H locs hC => ?_)
  refine nn_putF (C := RX4) (T := TX4) (N := 9) (ci := 0) (w1 := w ++ [(a, .inr (0, [.ref (q1), .ref (q2), .ref (q3), .ref (q4), .int 0, .null, .int 0, .int 0, .null])), (q1, .inl (ca 0, 36, .inl (fun _ => 0))), (q2, .inl (ca 0, 36, .inl (fun _ => 0))), (q3, .inl (ca 0, 5, .inl (upd (upd (upd (upd (upd (fun _ => 0) 0 0) 1 1) 2 3) 3 2) 4 0))), (q4, .inl (ca 0, 2, .inl (upd (upd (fun _ => 0) 0 14) 1 0)))]) hx hb hown hts hX hC in_X4 tyX4 tyX4_ok nmX4 (w.length + 0) (nth_r (w := w) (k := 0) rfl) rfl 3 (by decide) q247 (fun _ h => h) rfl hin2 rfl rfl rfl (Nat.le_of_ble_eq_true rfl) set_r dX4_init_60 (fun H locs hC => ?_)
  refine lv_aload_n hx hb dX4_init_63 rfl (lv_at hl 0 rfl) ?_
  refine lv_iconst (v := 4) hx hb dX4_init_64 rfl ?_
  refine lv_bipush (v := 8) hx hb dX4_init_65 rfl ?_
  refine nn_multi (ca := ca) hx hb hown hts hX hC q236 rfl rfl (Nat.le_of_ble_eq_true rfl) (Nat.le_of_ble_eq_true rfl) dX4_init_67 (fun q5 H locs hC => ?_)
  have hC : nC (xC ca D adK adV) base (w ++ [(a, .inr (0, [.ref (q1), .ref (q2), .ref (q3), .ref (q4), .int 0, .null, .int 0, .int 0, .null])), (q1, .inl (ca 0, 36, .inl (fun _ => 0))), (q2, .inl (ca 0, 36, .inl (fun _ => 0))), (q3, .inl (ca 0, 5, .inl (upd (upd (upd (upd (upd (fun _ => 0) 0 0) 1 1) 2 3) 3 2) 4 0))), (q4, .inl (ca 0, 2, .inl (upd (upd (fun _ => 0) 0 14) 1 0))), (q5, .inl (ca 1, 4, .inr (.inr (.inr (.inr (fun k => some (q5 + 1 + k))))))), (q5 + 1 + 0, .inl (ca 0, 8, .inl (fun _ => 0))), (q5 + 1 + 1, .inl (ca 0, 8, .inl (fun _ => 0))), (q5 + 1 + 2, .inl (ca 0, 8, .inl (fun _ => 0))), (q5 + 1 + 3, .inl (ca 0, 8, .inl (fun _ => 0)))]) s.heap H locs := hC
  refine nn_putF (C := RX4) (T := TX4) (N := 9) (ci := 0) (w1 := w ++ [(a, .inr (0, [.ref (q1), .ref (q2), .ref (q3), .ref (q4), .int 0, .ref (q5), .int 0, .int 0, .null])), (q1, .inl (ca 0, 36, .inl (fun _ => 0))), (q2, .inl (ca 0, 36, .inl (fun _ => 0))), (q3, .inl (ca 0, 5, .inl (upd (upd (upd (upd (upd (fun _ => 0) 0 0) 1 1) 2 3) 3 2) 4 0))), (q4, .inl (ca 0, 2, .inl (upd (upd (fun _ => 0) 0 14) 1 0))), (q5, .inl (ca 1, 4, .inr (.inr (.inr (.inr (fun k => some (q5 + 1 + k))))))), (q5 + 1 + 0, .inl (ca 0, 8, .inl (fun _ => 0))), (q5 + 1 + 1, .inl (ca 0, 8, .inl (fun _ => 0))), (q5 + 1 + 2, .inl (ca 0, 8, .inl (fun _ => 0))), (q5 + 1 + 3, .inl (ca 0, 8, .inl (fun _ => 0)))]) hx hb hown hts hX hC in_X4 tyX4 tyX4_ok nmX4 (w.length + 0) (nth_r (w := w) (k := 0) rfl) rfl 5 (by decide) q254 (fun _ h => h) rfl hin2 rfl rfl rfl (Nat.le_of_ble_eq_true rfl) set_r dX4_init_71 (fun H locs hC => ?_)
  refine lv_aload_n hx hb dX4_init_74 rfl (lv_at hl 0 rfl) ?_
  refine lv_iconst (v := 1) hx hb dX4_init_75 rfl ?_
  refine nn_put (C := RX4) (T := TX4) (N := 9) (ci := 0) (w1 := w ++ [(a, .inr (0, [.ref (q1), .ref (q2), .ref (q3), .ref (q4), .int 0, .ref (q5), .int 0, .int 1, .null])), (q1, .inl (ca 0, 36, .inl (fun _ => 0))), (q2, .inl (ca 0, 36, .inl (fun _ => 0))), (q3, .inl (ca 0, 5, .inl (upd (upd (upd (upd (upd (fun _ => 0) 0 0) 1 1) 2 3) 3 2) 4 0))), (q4, .inl (ca 0, 2, .inl (upd (upd (fun _ => 0) 0 14) 1 0))), (q5, .inl (ca 1, 4, .inr (.inr (.inr (.inr (fun k => some (q5 + 1 + k))))))), (q5 + 1 + 0, .inl (ca 0, 8, .inl (fun _ => 0))), (q5 + 1 + 1, .inl (ca 0, 8, .inl (fun _ => 0))), (q5 + 1 + 2, .inl (ca 0, 8, .inl (fun _ => 0))), (q5 + 1 + 3, .inl (ca 0, 8, .inl (fun _ => 0)))]) hx hb hown hts hX hC in_X4 tyX4 tyX4_ok nmX4 (w.length + 0) (nth_r (w := w) (k := 0) rfl) rfl 7 (by decide) q260 (fun _ h => h) rfl rfl rfl (Nat.le_of_ble_eq_true rfl) set_r dX4_init_76 (fun H locs hC => ?_)
  refine lv_aload_n hx hb dX4_init_79 rfl (lv_at hl 0 rfl) ?_
  refine lv_bipush (v := 10) hx hb dX4_init_80 rfl ?_
  refine nn_newa (atype := .int) (t0 := 0) (cA := ca 0) (N' := 10) (a0 := (10, .inl (fun _ => 0))) hx hb hts hX hC q284 rfl rfl (fun _ => rfl) (by decide) rfl (by decide) (Nat.le_of_ble_eq_true rfl) (Nat.le_of_ble_eq_true rfl) dX4_init_82 (fun q6 H hC => ?_)
  have hC : nC (xC ca D adK adV) base (w ++ [(a, .inr (0, [.ref (q1), .ref (q2), .ref (q3), .ref (q4), .int 0, .ref (q5), .int 0, .int 1, .null])), (q1, .inl (ca 0, 36, .inl (fun _ => 0))), (q2, .inl (ca 0, 36, .inl (fun _ => 0))), (q3, .inl (ca 0, 5, .inl (upd (upd (upd (upd (upd (fun _ => 0) 0 0) 1 1) 2 3) 3 2) 4 0))), (q4, .inl (ca 0, 2, .inl (upd (upd (fun _ => 0) 0 14) 1 0))), (q5, .inl (ca 1, 4, .inr (.inr (.inr (.inr (fun k => some (q5 + 1 + k))))))), (q5 + 1 + 0, .inl (ca 0, 8, .inl (fun _ => 0))), (q5 + 1 + 1, .inl (ca 0, 8, .inl (fun _ => 0))), (q5 + 1 + 2, .inl (ca 0, 8, .inl (fun _ => 0))), (q5 + 1 + 3, .inl (ca 0, 8, .inl (fun _ => 0))), (q6, .inl (ca 0, 10, .inl (fun _ => 0)))]) s.heap H _ := hC
  refine nn_putF (C := RX4) (T := TX4) (N := 9) (ci := 0) (w1 := w ++ [(a, .inr (0, [.ref (q1), .ref (q2), .ref (q3), .ref (q4), .int 0, .ref (q5), .int 0, .int 1, .ref (q6)])), (q1, .inl (ca 0, 36, .inl (fun _ => 0))), (q2, .inl (ca 0, 36, .inl (fun _ => 0))), (q3, .inl (ca 0, 5, .inl (upd (upd (upd (upd (upd (fun _ => 0) 0 0) 1 1) 2 3) 3 2) 4 0))), (q4, .inl (ca 0, 2, .inl (upd (upd (fun _ => 0) 0 14) 1 0))), (q5, .inl (ca 1, 4, .inr (.inr (.inr (.inr (fun k => some (q5 + 1 + k))))))), (q5 + 1 + 0, .inl (ca 0, 8, .inl (fun _ => 0))), (q5 + 1 + 1, .inl (ca 0, 8, .inl (fun _ => 0))), (q5 + 1 + 2, .inl (ca 0, 8, .inl (fun _ => 0))), (q5 + 1 + 3, .inl (ca 0, 8, .inl (fun _ => 0))), (q6, .inl (ca 0, 10, .inl (fun _ => 0)))]) hx hb hown hts hX hC in_X4 tyX4 tyX4_ok nmX4 (w.length + 0) (nth_r (w := w) (k := 0) rfl) rfl 8 (by decide) q262 (fun _ h => h) rfl hin2 rfl rfl rfl (Nat.le_of_ble_eq_true rfl) set_r dX4_init_84 (fun H locs hC => ?_)
  refine lv_iconst (v := 0) hx hb dX4_init_87 rfl ?_
  refine lv_istore_n (lv' := [(1, .int 0), (0, .ref (a))]) hx hb dX4_init_88 rfl hl (by decide) rfl (fun ls hl => ?_)
  have L9 : ∀ (k9 i9 : Nat), i9 + k9 = 10 → ∀ (H : Heap) (locs : List Loc), nC (xC ca D adK adV) base (w ++ [(a, .inr (0, [.ref (q1), .ref (q2), .ref (q3), .ref (q4), .int 0, .ref (q5), .int 0, .int 1, .ref (q6)])), (q1, .inl (ca 0, 36, .inl (fun _ => 0))), (q2, .inl (ca 0, 36, .inl (fun _ => 0))), (q3, .inl (ca 0, 5, .inl (upd (upd (upd (upd (upd (fun _ => 0) 0 0) 1 1) 2 3) 3 2) 4 0))), (q4, .inl (ca 0, 2, .inl (upd (upd (fun _ => 0) 0 14) 1 0))), (q5, .inl (ca 1, 4, .inr (.inr (.inr (.inr (fun k => some (q5 + 1 + k))))))), (q5 + 1 + 0, .inl (ca 0, 8, .inl (fun _ => 0))), (q5 + 1 + 1, .inl (ca 0, 8, .inl (fun _ => 0))), (q5 + 1 + 2, .inl (ca 0, 8, .inl (fun _ => 0))), (q5 + 1 + 3, .inl (ca 0, 8, .inl (fun _ => 0))), (q6, .inl (ca 0, 10, .inl (hlow i9)))]) s.heap H locs → ∀ ls : Array Slot, lv_has ls 2 [(1, .int (nI i9)), (0, .ref (a))] → NG p l e ({ frames := 1, cells := 10, slots := 125, locals := 13 }) s m (([.ref (a)] : List Value).toArray) below meth c H locs 10 125 (xC ca D adK adV) base (fun _ : Nat → Nat => none) (fun u => w ++ WC ca (ac a u)) 10 125 (F0 m 89 ls []) := by
    intro k9
    induction k9 with
    | zero =>
      intro i9 hi9 H locs hC ls hl
      obtain rfl : i9 = 10 := by omega
      refine lv_iload_n hx hb dX4_init_89 rfl (lv_at hl 0 rfl) ?_
      refine lv_bipush (v := 10) hx hb dX4_init_90 rfl ?_
      refine fj_ge (tgt := 108) hx hb dX4_init_92 (by decide) (fun _ => ?_) (fun z_1 => absurd z_1 (by decide))
      exact nn_vret hx hb hr hlocks hX hC (fun i => [q1, q2, q3, q4, q5, q5 + 1 + 0, q5 + 1 + 1, q5 + 1 + 2, q5 + 1 + 3, q6].getD i 0) rfl rfl dX4_init_108
    | succ k9 ih9 =>
      intro i9 hi9 H locs hC ls hl
      refine lv_iload_n hx hb dX4_init_89 rfl (lv_at hl 0 rfl) ?_
      refine lv_bipush (v := 10) hx hb dX4_init_90 rfl ?_
      refine fj_ge (tgt := 108) hx hb dX4_init_92 (by decide) (fun z_2 => absurd (nI_lt (a := i9) (b := 10) (by omega) (by omega)) z_2) (fun _ => ?_)
      refine lv_aload_n hx hb dX4_init_95 rfl (lv_at hl 1 rfl) ?_
      refine nn_get (C := RX4) (T := TX4) (N := 9) (ci := 0) (v := .ref (q6)) hx hb hown hts hX hC in_X4 (w.length + 0) (nth_r (w := w) (k := 0) rfl) rfl 8 (by decide) q262 (fun _ h => h) rfl dX4_init_96 ?_
      refine lv_iload_n hx hb dX4_init_99 rfl (lv_at hl 0 rfl) ?_
      refine lv_iconst (v := (-1)) hx hb dX4_init_100 rfl ?_
      refine nn_iastq (t0 := 0) (w1 := w ++ [(a, .inr (0, [.ref (q1), .ref (q2), .ref (q3), .ref (q4), .int 0, .ref (q5), .int 0, .int 1, .ref (q6)])), (q1, .inl (ca 0, 36, .inl (fun _ => 0))), (q2, .inl (ca 0, 36, .inl (fun _ => 0))), (q3, .inl (ca 0, 5, .inl (upd (upd (upd (upd (upd (fun _ => 0) 0 0) 1 1) 2 3) 3 2) 4 0))), (q4, .inl (ca 0, 2, .inl (upd (upd (fun _ => 0) 0 14) 1 0))), (q5, .inl (ca 1, 4, .inr (.inr (.inr (.inr (fun k => some (q5 + 1 + k))))))), (q5 + 1 + 0, .inl (ca 0, 8, .inl (fun _ => 0))), (q5 + 1 + 1, .inl (ca 0, 8, .inl (fun _ => 0))), (q5 + 1 + 2, .inl (ca 0, 8, .inl (fun _ => 0))), (q5 + 1 + 3, .inl (ca 0, 8, .inl (fun _ => 0))), (q6, .inl (ca 0, 10, .inl (upd (hlow i9) i9 (-1))))]) hx hb hX hC (w.length + 10) (nth_r (w := w) (k := 10) rfl) rfl (vp_in_nI (show i9 < 10 by omega) (by decide)) (nI_clamp (by omega)) set_r dX4_init_101 (fun H locs hC => ?_)
      refine lv_iinc (v := nI (i9 + 1)) (lv' := [(1, .int (nI (i9 + 1))), (0, .ref (a))]) hx hb dX4_init_102 hl (k := 0) rfl (nI_1 _) (by decide) rfl (fun ls hl => ?_)
      refine lv_goto (tgt := 89) hx hb dX4_init_105 (by decide) ?_
      rw [hlow_s] at hC
      exact ih9 (i9 + 1) (by omega) _ _ hC ls (lv_sub hl [0, 1] rfl)
  have hC : nC (xC ca D adK adV) base (w ++ [(a, .inr (0, [.ref (q1), .ref (q2), .ref (q3), .ref (q4), .int 0, .ref (q5), .int 0, .int 1, .ref (q6)])), (q1, .inl (ca 0, 36, .inl (fun _ => 0))), (q2, .inl (ca 0, 36, .inl (fun _ => 0))), (q3, .inl (ca 0, 5, .inl (upd (upd (upd (upd (upd (fun _ => 0) 0 0) 1 1) 2 3) 3 2) 4 0))), (q4, .inl (ca 0, 2, .inl (upd (upd (fun _ => 0) 0 14) 1 0))), (q5, .inl (ca 1, 4, .inr (.inr (.inr (.inr (fun k => some (q5 + 1 + k))))))), (q5 + 1 + 0, .inl (ca 0, 8, .inl (fun _ => 0))), (q5 + 1 + 1, .inl (ca 0, 8, .inl (fun _ => 0))), (q5 + 1 + 2, .inl (ca 0, 8, .inl (fun _ => 0))), (q5 + 1 + 3, .inl (ca 0, 8, .inl (fun _ => 0))), (q6, .inl (ca 0, 10, .inl (hlow 0)))]) s.heap H locs := hC
  exact L9 10 0 (by omega) _ _ hC ls (lv_sub hl [0, 1] rfl)
