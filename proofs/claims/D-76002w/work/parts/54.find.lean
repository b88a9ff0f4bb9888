theorem fnd_ix {k : Int32} (hk : vp_in k 7) : ix (-1000001 - (-1000001 - k) + 1) = ix k + 1 ∧ vp_in (-1000001 - (-1000001 - k) + 1) 8 := by
  obtain ⟨a, ha, rfl⟩ := vp_in_of hk (by decide)
  have key : ∀ a, a < 7 → ix (-1000001 - (-1000001 - nI a) + 1) = ix (nI a) + 1 := by decide +kernel
  have key2 : ∀ a, a < 7 → (decide (0 ≤ (-1000001 - (-1000001 - nI a) + 1 : Int32).toInt) && decide ((-1000001 - (-1000001 - nI a) + 1 : Int32).toInt < 8)) = true := by decide +kernel
  exact ⟨key a ha, vin_b (key2 a ha)⟩
set_option maxRecDepth 100000 in
theorem m_X13_finding {l : Launch} {G : Gm} {d kp as bf sc fd tp it ws sz nu mv : Row} (k : Int32) (hk : vp_in k 7) : Cm l yX13_finding (ws_ yX13_finding cX13_finding 2 (some .int)) ({ frames := 0, cells := 0, slots := 0, locals := 0 }) (mF G) [.ref (G.ad 0 0), .int (-1000001 - k)] (mct G (mpg d kp as bf sc fd tp it ws sz nu mv)) (fun _ : Unit => some (.int (-1000001 - k))) (fun _ => mct G (mpg d kp as bf sc (p_find fd k) tp it ws sz nu mv)) := by
  refine Cm.start (by decide) (Nat.le_of_ble_eq_true rfl) ?_
  intro p e s m below meth c hf hX hC ls hl
  obtain ⟨hx, hb, hr, hml, hown, hts, hlocks⟩ := hf
  have hl : lv_has ls 2 [(0, .ref (G.ad 0 0)), (1, .int (-1000001 - k))] := hl
  have hown : s.vm.findClass "OwlEarsModel" = some m.cls := hown
  obtain ⟨e1, h1⟩ := fnd_ix hk
  have hk7 : ix k < 7 := vin_lt hk
  refine lv_aload_n hx hb dX13_finding_0 rfl (lv_at hl 0 rfl) ?_
  refine fg_get (C := RX13) (T := TX13) (N := 24) (ci := 0) (g := 0) (i := 0) (v := .ref (G.ad 0 5)) hx hb hown hts hX hC in_X13 rfl (min_ (by decide)) rfl 5 (by decide) q1315 (fun _ h => h) rfl dX13_finding_1 ?_
  refine lv_ldc (v := (-1000001)) hx hb hown (hts _ q1403) dX13_finding_4 ?_
  refine lv_iload_n hx hb dX13_finding_6 rfl (lv_at hl 1 rfl) ?_
  refine lv_isub hx hb dX13_finding_7 ?_
  refine lv_iconst (v := 1) hx hb dX13_finding_8 rfl ?_
  refine lv_iadd hx hb dX13_finding_9 ?_
  refine lv_dup2_11 hx hb dX13_finding_10 rfl rfl ?_
  refine fg_iald (g := 0) (i := 5) (t0 := 0) (v := fd (ix k)) hx hb hX hC (min_ (by decide)) rfl rfl h1 (congrArg (mf fd) e1) dX13_finding_11 ?_
  refine lv_iconst (v := 1) hx hb dX13_finding_12 rfl ?_
  refine lv_iadd hx hb dX13_finding_13 ?_
  refine fg_iast (g := 0) (i := 5) (t0 := 0) hx hb hX hC (min_ (by decide)) rfl rfl h1 (ctset (mct G (mpg d kp as bf sc fd tp it ws sz nu mv)) 0 5 (.inl (G.ca 0, 8, .inl (upd (mf fd) (ix k + 1) (fd (ix k) + 1))))) ⟨fun H z => by rw [ctset_s]; exact mst e1 _ H z, fun x hx hn H z => by
      have q1 : ¬ (x.1 = 0 ∧ x.2 = 5) := fun w => hn (Prod.ext w.1 w.2)
      rw [ctset_n q1]
      exact z⟩ dX13_finding_14 (fun H locs hC => ?_)
  refine lv_aload_n hx hb dX13_finding_15 rfl (lv_at hl 0 rfl) ?_
  refine fg_get (C := RX13) (T := TX13) (N := 24) (ci := 0) (g := 0) (i := 0) (v := .ref (G.ad 0 5)) hx hb hown hts hX hC in_X13 rfl (min_ (by decide)) (ctset_n (by decide)) 5 (by decide) q1315 (fun _ h => h) rfl dX13_finding_16 ?_
  refine lv_iconst (v := 0) hx hb dX13_finding_19 rfl ?_
  refine lv_dup2_11 hx hb dX13_finding_20 rfl rfl ?_
  refine fg_iald (g := 0) (i := 5) (t0 := 0) (v := mf fd 0) hx hb hX hC (min_ (by decide)) ctset_s rfl (vin_b rfl) (upd_n (j := 0) (by omega)) dX13_finding_21 ?_
  refine lv_iconst (v := 1) hx hb dX13_finding_22 rfl ?_
  refine lv_iadd hx hb dX13_finding_23 ?_
  refine fg_iast (g := 0) (i := 5) (t0 := 0) hx hb hX hC (min_ (by decide)) ctset_s rfl (vin_b rfl) (mct G (mpg d kp as bf sc (p_find fd k) tp it ws sz nu mv)) ⟨fun H z => ?_, fun x hx hn H z => ?_⟩ dX13_finding_24 (fun H locs hC => ?_)
  · show va_at G.D clM (G.ad 0 5, .inl (G.ca 0, 8, .inl (mf (upd fd (ix k) (fd (ix k) + 1))))) H
    rw [← mf_find fd hk7]
    exact z
  · have q1 : ¬ (x.1 = 0 ∧ x.2 = 5) := fun w => hn (Prod.ext w.1 w.2)
    rw [ctset_n q1] at z
    obtain ⟨q2, q3⟩ := min_inv hx
    obtain ⟨a, b⟩ := x
    have q2 : a = 0 := q2
    subst q2
    have q4 : b ≠ 5 := fun w => q1 ⟨rfl, w⟩
    have e : mct G (mpg d kp as bf sc (p_find fd k) tp it ws sz nu mv) 0 b = mct G (mpg d kp as bf sc fd tp it ws sz nu mv) 0 b := by
      show mcell G _ b = mcell G _ b
      rw [mp5 b q4]
    show va_at G.D clM (G.ad 0 b, mct G (mpg d kp as bf sc (p_find fd k) tp it ws sz nu mv) 0 b) H
    rw [e]
    exact z
  refine lv_iload_n hx hb dX13_finding_25 rfl (lv_at hl 1 rfl) ?_
  exact fr_i hx hb hr hlocks hX hC () rfl rfl dX13_finding_26
