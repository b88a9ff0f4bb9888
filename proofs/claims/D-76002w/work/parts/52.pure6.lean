theorem mst {D : va_G} {cl : List vw_C} {cA : ClassId} {n : Nat} {f : Nat → Int32} {v : Int32} {k k' : Nat} (e : k = k') : ∀ (a : Nat) (H : Heap), va_at D cl (a, .inl (cA, n, .inl (upd f k v))) H → va_at D cl (a, .inl (cA, n, .inl (upd f k' v))) H := by
  subst e
  exact fun _ _ h => h
theorem and255 (x : Int32) : vp_nar .byte x &&& 255 = x &&& 255 := by
  rw [vp_nar_byte]
  exact bp_b x
theorem mt_upd (tp : Row) (k : Nat) (x : Int32) : upd (mt tp) k (x &&& 255) = mt (upd tp k (vp_nar .byte x)) := by
  funext j
  show upd (mt tp) k (x &&& 255) j = upd tp k (vp_nar .byte x) j &&& 255
  by_cases h : j = k
  · subst h; rw [upd_s, upd_s, and255]
  · rw [upd_n h, upd_n h]; rfl
theorem mtp {D : va_G} {cl : List vw_C} {cA : ClassId} {n : Nat} {tp : Row} {x : Int32} {k k' : Nat} (e : k = k') : ∀ (a : Nat) (H : Heap), va_at D cl (a, .inl (cA, n, .inl (upd (mt tp) k (x &&& 255)))) H → va_at D cl (a, .inl (cA, n, .inl (mt (upd tp k' (vp_nar .byte x))))) H := by
  subst e
  intro a H h
  rw [mt_upd] at h
  exact h
theorem i0 (z : Int32) : (0 - z).toInt = if z.toInt = -2147483648 then -2147483648 else -z.toInt := by
  have h1 := Int32.le_toInt z
  have h2 := Int32.toInt_lt z
  rw [Int32.toInt_sub]
  have z0 : (0 : Int32).toInt = 0 := rfl
  rw [z0]
  split
  · rename_i q; rw [q]; rfl
  · rw [Int.bmod_def]; omega
theorem ab_sub (x y : Int32) : ab (x - y) = ab (y - x) := by
  have e : y - x = 0 - (x - y) := by
    apply Int32.toBitVec_inj.mp
    simp only [Int32.toBitVec_sub]
    have : (Int32.toBitVec 0) = 0#32 := rfl
    rw [this, BitVec.zero_sub, BitVec.neg_sub, BitVec.sub_eq_add_neg, BitVec.add_comm]
  rw [e]
  generalize x - y = z
  have h1 := Int32.le_toInt z
  have h2 := Int32.toInt_lt z
  have z0 : (0 : Int32).toInt = 0 := rfl
  have e0 := i0 z
  have e1 := i0 (0 - z)
  unfold ab
  by_cases c : 0 ≤ z
  · rw [if_pos c]
    rw [Int32.le_iff_toInt_le] at c
    by_cases q : 0 ≤ 0 - z
    · rw [if_pos q]
      rw [Int32.le_iff_toInt_le] at q
      apply Int32.toInt_inj.mp
      split at e0
      · omega
      · omega
    · rw [if_neg q]
      apply Int32.toInt_inj.mp
      rw [Int32.le_iff_toInt_le] at q
      rw [e1]
      split at e0
      · omega
      · rw [if_neg (by omega)]; omega
  · rw [if_neg c]
    rw [Int32.le_iff_toInt_le] at c
    by_cases q : 0 ≤ 0 - z
    · rw [if_pos q]
    · rw [if_neg q]
      rw [Int32.le_iff_toInt_le] at q
      apply Int32.toInt_inj.mp
      rw [e1]
      split at e0
      · rw [if_pos (by omega)]; omega
      · omega
theorem p_apart_comm (a b : Int32) : p_apart a b = p_apart b a := by
  unfold p_apart
  rw [ab_sub (a / 6), ab_sub (rm a 6)]
theorem nb_neg {c h : Int32} (hc : vp_in c 36) : p_nb c h < 0 ↔ p_nb c h = -1 := by
  rcases nb_ok (h := h) hc with q | q
  · rw [q]; decide
  · constructor
    · intro z; exact absurd z (vin_nn q)
    · intro z; rw [z] at q; exact absurd (show (-1 : Int32) < 0 by decide) (vin_nn q)
theorem in01 {x : Int32} : p_in x 0 1 ↔ x = 0 ∨ x = 1 := by
  constructor
  · intro h
    obtain ⟨j, hj, rfl⟩ := vp_in_of (vin_of h 2 (by decide)) (by decide)
    match j, hj with
    | 0, _ => exact Or.inl rfl
    | 1, _ => exact Or.inr rfl
  · rintro (rfl | rfl) <;> decide
theorem in02 {x : Int32} : p_in x 0 2 ↔ x = 0 ∨ x = 1 ∨ x = 2 := by
  constructor
  · intro h
    obtain ⟨j, hj, rfl⟩ := vp_in_of (vin_of h 3 (by decide)) (by decide)
    match j, hj with
    | 0, _ => exact Or.inl rfl
    | 1, _ => exact Or.inr (Or.inl rfl)
    | 2, _ => exact Or.inr (Or.inr rfl)
  · rintro (rfl | rfl | rfl) <;> decide
theorem c6_36 {c : Int32} (hc : vp_in c 36) : c + 6 < 36 ↔ c < 30 := by
  obtain ⟨a, ha, rfl⟩ := vp_in_of hc (by decide)
  have key : ∀ a, a < 36 → (nI a + 6 < 36 ↔ nI a < 30) := by decide +kernel
  exact key a ha
theorem p_sum_congr {f g : Nat → Int32} : ∀ n, (∀ k, k < n → f k = g k) → p_sum f n = p_sum g n
  | 0, _ => rfl
  | n + 1, h => by
    show p_sum f n + f n = p_sum g n + g n
    rw [p_sum_congr n (fun k hk => h k (by omega)), h n (by omega)]
theorem ix_nI {n : Nat} (h : n < 2147483648) : ix (nI n) = n := nI_clamp h
