def GF (G : Gc) (sh : Row) : Prop := ∀ i, i < 4 → ∀ j, j < G.sn i → (G.sw i = 8 → fits .byte (.int (sh (40 * i + j))) = true) ∧ (G.sw i = 16 → fits .short (.int (sh (40 * i + j))) = true)
theorem len_ok {f n : Int32} {k : Nat} (hk : k ≤ 40) (hn : ¬ n < 0) (hf : ¬ f < 0) (h : ¬ nI k - n < f) : ix f + ix n ≤ k := by
  have := (mv_in (z := nI k) (vp_in_nI (by omega) (by decide)) hn hf h).1
  rw [ix_nI (show k < 2147483648 by omega)] at this
  exact this
theorem sw_eq {G : Gc} {s0 t : Int32} (hG : GW G) (hs : p_in s0 0 3) (ht : p_in t 0 3) (h : nI (G.sw (ix s0)) = nI (G.sw (ix t))) : G.sw (ix t) = G.sw (ix s0) := by
  have h1 := (hG (ix s0) (vin_lt (vin_of hs 4 (by decide)))).1
  have h2 := (hG (ix t) (vin_lt (vin_of ht 4 (by decide)))).1
  exact ((nI_eq (by omega) (by omega)).mp h).symm
theorem cs_mv {G : Gc} {d kp as un to sc fd tp sh : Row} {sp : Nat → Option Nat} {i0 i1 a b n : Nat} {cA : ClassId} (hG : GW G) (hi : i1 < 4) (hb : b + n ≤ G.sn i1) (hA : ∀ sh : Row, cct G (pg d kp as un to sc fd tp sh) sp 10 i1 = .inl (cA, G.sn i1, .inl (fun j => sh (40 * i1 + j)))) : ups (cF G) (cct G (pg d kp as un to sc fd tp sh) sp) (cct G (pg d kp as un to sc fd tp (p_mv sh (40 * i0 + a) (40 * i1 + b) n)) sp) 10 i1 (.inl (cA, G.sn i1, .inl (va_cpy (fun j => sh (40 * i0 + j)) (fun j => sh (40 * i1 + j)) a b n))) := by
  refine cu_10 hi (fun q H h => ?_) (fun c hc hci j hj => ?_)
  · rw [hA]
    refine at_arr (f := va_cpy (fun j => sh (40 * i0 + j)) (fun j => sh (40 * i1 + j)) a b n) (f' := fun j => p_mv sh (40 * i0 + a) (40 * i1 + b) n (40 * i1 + j)) (fun j hj => ?_) H h
    show (if b ≤ j ∧ j < b + n then sh (40 * i0 + (a + (j - b))) else sh (40 * i1 + j)) = (if 40 * i1 + b ≤ 40 * i1 + j ∧ 40 * i1 + j < 40 * i1 + b + n then sh (40 * i0 + a + (40 * i1 + j - (40 * i1 + b))) else sh (40 * i1 + j))
    by_cases q : b ≤ j ∧ j < b + n
    · rw [if_pos q, if_pos (by omega)]
      congr 1
      omega
    · rw [if_neg q, if_neg (by omega)]
  · have h1 := (hG c hc).2
    have h2 := (hG i1 hi).2
    exact if_neg (by omega)
