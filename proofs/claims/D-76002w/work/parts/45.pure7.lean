theorem nI_or (a b : Nat) : nI a ||| nI b = nI (a ||| b) := by
  apply Int32.toBitVec_inj.1
  show BitVec.ofNat 32 a ||| BitVec.ofNat 32 b = BitVec.ofNat 32 (a ||| b)
  apply BitVec.eq_of_getLsbD_eq
  intro i hi
  simp [hi]
def p_set (P : Nat → Prop) [DecidablePred P] : Nat → Nat
  | 0 => 0
  | n + 1 => p_set P n ||| (if P n then 2 ^ n else 0)
theorem p_set_lt (P : Nat → Prop) [DecidablePred P] : ∀ n, p_set P n < 2 ^ n
  | 0 => Nat.one_pos
  | n + 1 => by
    refine Nat.or_lt_two_pow (Nat.lt_of_lt_of_le (p_set_lt P n) (Nat.pow_le_pow_right (by decide) (by omega))) ?_
    split
    · exact Nat.pow_lt_pow_right (by decide) (by omega)
    · exact Nat.two_pow_pos _
theorem p_set_bit (P : Nat → Prop) [DecidablePred P] : ∀ n v, (p_set P n).testBit v = (decide (v < n) && decide (P v))
  | 0, v => by simp [p_set]
  | n + 1, v => by
    show (p_set P n ||| (if P n then 2 ^ n else 0)).testBit v = _
    rw [Nat.testBit_or, p_set_bit P n v]
    by_cases h : v = n
    · subst h
      by_cases q : P v
      · simp [q]
      · simp [q]
    · have e0 : (if P n then 2 ^ n else 0 : Nat).testBit v = false := by
        split
        · rw [Nat.testBit_two_pow]
          exact decide_eq_false (fun q => h q.symm)
        · simp
      rw [e0, Bool.or_false]
      have e : decide (v < n) = decide (v < n + 1) := by
        rw [decide_eq_decide]; omega
      rw [e]
theorem sh1 : ∀ v, v < 32 → (1 : Int32) <<< (nI v &&& 31) = nI (2 ^ v) := by decide +kernel
theorem sh1l : ∀ v, v < 64 → (1 : Int64) <<< ((nI v).toInt64 &&& 63) = lN (2 ^ v) := by decide +kernel
theorem p_orr_set (P : Nat → Prop) [DecidablePred P] : ∀ n, n ≤ 32 → p_orr (fun v => if P v then 1 <<< (nI v &&& 31) else 0) n = nI (p_set P n)
  | 0, _ => rfl
  | n + 1, h => by
    show p_orr _ n ||| (if P n then 1 <<< (nI n &&& 31) else 0) = nI (p_set P n ||| (if P n then 2 ^ n else 0))
    rw [p_orr_set P n (by omega), ← nI_or]
    congr 1
    split
    · exact sh1 n (by omega)
    · rfl
theorem p_orl_set (P : Nat → Prop) [DecidablePred P] : ∀ n, n ≤ 64 → p_orl (fun v => if P v then 1 <<< ((nI v).toInt64 &&& 63) else 0) n = lN (p_set P n)
  | 0, _ => rfl
  | n + 1, h => by
    show p_orl _ n ||| (if P n then 1 <<< ((nI n).toInt64 &&& 63) else 0) = lN (p_set P n ||| (if P n then 2 ^ n else 0))
    have b1 : p_set P n < 2 ^ 64 := Nat.lt_of_lt_of_le (p_set_lt P n) (Nat.pow_le_pow_right (by decide) (by omega))
    have b2 : (if P n then 2 ^ n else 0 : Nat) < 2 ^ 64 := by
      split
      · exact Nat.pow_lt_pow_right (by decide) (by omega)
      · decide
    rw [p_orl_set P n (by omega), ← wb_or b1 b2]
    congr 1
    split
    · exact sh1l n (by omega)
    · rfl
theorem p_fst_spec (c : Nat → Prop) [DecidablePred c] : ∀ k i, (p_fst c k i = -1 ∧ ∀ j, i ≤ j → j < i + k → ¬ c j) ∨ ∃ v, i ≤ v ∧ v < i + k ∧ c v ∧ (∀ j, i ≤ j → j < v → ¬ c j) ∧ p_fst c k i = nI v
  | 0, i => Or.inl ⟨rfl, fun j h1 h2 => by omega⟩
  | k + 1, i => by
    by_cases h : c i
    · exact Or.inr ⟨i, Nat.le_refl _, by omega, h, fun j h1 h2 => by omega, p_fst_t h⟩
    · rw [p_fst_f h]
      rcases p_fst_spec c k (i + 1) with ⟨e, q⟩ | ⟨v, h1, h2, h3, h4, e⟩
      · refine Or.inl ⟨e, fun j h1 h2 => ?_⟩
        by_cases z : j = i
        · rw [z]; exact h
        · exact q j (by omega) (by omega)
      · refine Or.inr ⟨v, by omega, by omega, h3, fun j h5 h6 => ?_, e⟩
        by_cases z : j = i
        · rw [z]; exact h
        · exact h4 j (by omega) h6
theorem p_fst_congr (c c' : Nat → Prop) [DecidablePred c] [DecidablePred c'] : ∀ k i, (∀ j, i ≤ j → j < i + k → (c j ↔ c' j)) → p_fst c k i = p_fst c' k i
  | 0, _, _ => rfl
  | k + 1, i, h => by
    have e := h i (Nat.le_refl _) (by omega)
    have r := p_fst_congr c c' k (i + 1) (fun j h1 h2 => h j (by omega) (by omega))
    by_cases q : c i
    · rw [p_fst_t q, p_fst_t (e.mp q)]
    · rw [p_fst_f q, p_fst_f (fun z => q (e.mpr z)), r]
theorem p_set_0 (P : Nat → Prop) [DecidablePred P] (n : Nat) : p_set P n = 0 ↔ ∀ j, j < n → ¬ P j := by
  constructor
  · intro h j hj q
    have e := p_set_bit P n j
    rw [h] at e
    simp [hj, q] at e
  · intro h
    apply Nat.eq_of_testBit_eq
    intro j
    rw [p_set_bit, Nat.zero_testBit]
    by_cases q : j < n
    · simp [h j q]
    · simp [q]
theorem low_mod {a v : Nat} (hb : a.testBit v = true) (hl : ∀ j, j < v → a.testBit j = false) : a % 2 ^ (v + 1) = 2 ^ v := by
  apply Nat.eq_of_testBit_eq
  intro j
  rw [Nat.testBit_mod_two_pow, Nat.testBit_two_pow]
  by_cases h : j = v
  · subst h; simp [hb]
  · by_cases q : j < v
    · rw [hl j q]; simp; omega
    · have : ¬ j < v + 1 := by omega
      simp [this]; omega
theorem ntz_mask {a v : Nat} (hv : v < 32) (ha : a < 2 ^ 32) (hb : a.testBit v = true) (hl : ∀ j, j < v → a.testBit j = false) : (nI a ^^^ (-1)) &&& (nI a - 1) = nI (2 ^ v - 1) := by
  have hm := low_mod hb hl
  have hpos : 0 < a := by
    rcases Nat.eq_zero_or_pos a with h | h
    · subst h; simp at hb
    · exact h
  have hp : 0 < 2 ^ v := Nat.two_pow_pos v
  have hd : a - 1 = 2 ^ (v + 1) * (a / 2 ^ (v + 1)) + (2 ^ v - 1) := by
    have := Nat.div_add_mod a (2 ^ (v + 1))
    omega
  have e1 : nI a - 1 = nI (a - 1) := by
    have : a = (a - 1) + 1 := by omega
    rw [this]
    exact nI_pred (a - 1)
  rw [e1]
  apply Int32.toBitVec_inj.1
  rw [Int32.toBitVec_and, Int32.toBitVec_xor]
  show (BitVec.ofNat 32 a ^^^ BitVec.allOnes 32) &&& BitVec.ofNat 32 (a - 1) = BitVec.ofNat 32 (2 ^ v - 1)
  apply BitVec.eq_of_getLsbD_eq
  intro i hi
  rw [BitVec.getLsbD_and, BitVec.getLsbD_xor, BitVec.getLsbD_ofNat, BitVec.getLsbD_ofNat, BitVec.getLsbD_ofNat, BitVec.getLsbD_allOnes]
  have hlt : 2 ^ v - 1 < 2 ^ (v + 1) := by
    have : 2 ^ v < 2 ^ (v + 1) := Nat.pow_lt_pow_right (by decide) (by omega)
    omega
  have e2 : (a - 1).testBit i = if i < v + 1 then (2 ^ v - 1).testBit i else (a / 2 ^ (v + 1)).testBit (i - (v + 1)) := by
    rw [hd, Nat.testBit_two_pow_mul_add _ hlt]
  rw [e2, Nat.testBit_two_pow_sub_one]
  by_cases h : i < v
  · rw [hl i h]
    have : i < v + 1 := by omega
    simp [h, hi, this]
  · by_cases q : i = v
    · subst q
      simp [hb]
    · have h1 : ¬ i < v + 1 := by omega
      rw [if_neg h1]
      have e3 : (a / 2 ^ (v + 1)).testBit (i - (v + 1)) = a.testBit i := by
        rw [Nat.testBit_div_two_pow]
        congr 1
        omega
      rw [e3]
      simp [hi, h]
def p_pop (m : Nat) : Nat := m % 2 + m / 2 % 2 + m / 4 % 2 + m / 8 % 2 + m / 16 % 2 + m / 32 % 2 + m / 64 % 2 + m / 128 % 2 + m / 256 % 2 + m / 512 % 2
theorem pop_step : ∀ a, a < 1024 → ¬ a = 0 → p_pop (a &&& (a - 1)) + 1 = p_pop a := by decide +kernel
theorem wait_bits : ∀ m, m < 1024 → ¬ m = 0 → (nI m &&& -(nI m)) - 1 = nI ((m ^^^ (m - 1)) / 2) ∧ (m ^^^ (m - 1)) / 2 < 1024 ∧ p_fst (fun v => m.testBit v = true) 10 0 = nI (p_pop ((m ^^^ (m - 1)) / 2)) := by decide +kernel
