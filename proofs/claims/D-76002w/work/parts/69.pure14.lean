def usp (sp : Nat → Option Nat) (i : Nat) (o : Option Nat) : Nat → Option Nat := fun j => if j = i then o else sp j
theorem usp_s {sp : Nat → Option Nat} {i : Nat} {o : Option Nat} : usp sp i o i = o := if_pos rfl
theorem cs_sp {G : Gc} {P : Nat → Row} {sp : Nat → Option Nat} {i : Nat} {o : Option Nat} : ups (cF G) (cct G P sp) (cct G P (usp sp i o)) 8 i (.inr (5, [va_rf o])) := by
  refine ⟨fun H h => ?_, fun x hx hne H h => ?_⟩
  · have e : cct G P (usp sp i o) 8 i = .inr (5, [va_rf o]) := by
      show Sum.inr (5, [va_rf (usp sp i o i)]) = _
      rw [usp_s]
    rw [e]
    exact h
  · obtain ⟨a, b⟩ := x
    have e : cct G P (usp sp i o) a b = cct G P sp a b := by
      by_cases ha : a = 8
      · subst ha
        have hb : ¬ b = i := fun q => hne (by rw [q])
        show Sum.inr (5, [va_rf (usp sp i o b)]) = Sum.inr (5, [va_rf (sp b)])
        rw [show usp sp i o b = sp b from if_neg hb]
      · unfold cct cct0
        split <;> first | rfl | exact absurd rfl ha
    rw [e]
    exact h
theorem under_all {n : Int32} (L : Int32 → Prop) (h : ∀ j, j < 7 → p_under n (nI j) → L (nI j)) {o : Int32} (ho : p_in o 0 6) (hu : p_under n o) : L o := by
  obtain ⟨j, hj, rfl⟩ := vp_in_of (vin_of ho 7 (by decide)) (by decide)
  exact h j hj hu
theorem hold_n0 {w : Row} (h : WF w) {s0 : Int32} (hs : vp_in s0 10) (hn : ¬ w (10 + ix s0) = -1) : vp_in (w (10 + ix s0)) 8 := by
  rcases h.holds (ix s0) (vin_lt hs) with q | q
  · exact absurd q hn
  · exact vin_w q (Nat.lt_succ_iff.mp (vin_lt h.many))
theorem nI_ix8 {x : Int32} (h : vp_in x 8) : nI (ix x) = x := by
  obtain ⟨j, hj, rfl⟩ := vp_in_of h (by decide)
  rw [ix_nI (by omega)]
