theorem rm_1 (x : Int32) : rm x 1 = 0 := by
  have e : x / 1 = x := by
    apply Int32.toInt_inj.mp
    rw [Int32.toInt_div_of_ne_right _ _ (by decide)]
    simp
  unfold rm
  rw [e]
  apply Int32.toBitVec_inj.mp
  rw [Int32.toBitVec_sub, Int32.toBitVec_mul]
  simp
theorem p_sum_1 (f : Nat → Int32) (h : ∀ i, f i = 1) : ∀ n, p_sum f n = nI n
  | 0 => rfl
  | n + 1 => by
    show p_sum f n + f n = nI (n + 1)
    rw [p_sum_1 f h n, h n]
    exact nI_1 n
theorem runs_10 (w : Row) (n : Nat) : p_runs (p_rh w 10) n = nI n := by
  refine p_sum_1 _ (fun i => ?_) n
  show (if rm (nI i) (10 / 10 + rm 10 10) < 10 / 10 then 1 else 0) = (1 : Int32)
  have e : (10 : Int32) / 10 + rm 10 10 = 1 := by decide
  rw [e, rm_1]
  decide
theorem heard_ne (w : Row) : ∀ n, n < 2 ^ 31 → ∃ j, j ≤ n ∧ p_heard w n = nI j
  | 0, _ => ⟨0, Nat.le_refl _, rfl⟩
  | n + 1, h => by
    obtain ⟨j, hj, e⟩ := heard_ne w n (by omega)
    show ∃ j, j ≤ n + 1 ∧ p_heard w n + (if p_hears (p_ticks n w) then 1 else 0) = nI j
    rw [e]
    by_cases c : p_hears (p_ticks n w)
    · rw [if_pos c]; exact ⟨j + 1, by omega, nI_1 j⟩
    · rw [if_neg c]
      exact ⟨j, by omega, by rw [← nI_0, nI_add]; rfl⟩
theorem by_10 {w : Row} {n k : Int32} (h : p_okTicks n k) : ¬ p_by w 10 n k = -1 := by
  have hn : ¬ n < 0 := by
    have := h.1.1
    intro q
    rw [Int32.lt_iff_toInt_lt] at this q
    have z : (0 : Int32).toInt = 0 := rfl
    have o : (1 : Int32).toInt = 1 := rfl
    omega
  unfold p_by
  rw [runs_10, nI_ix hn, if_neg h.2.2]
  obtain ⟨j, hj, e⟩ := heard_ne (p_rh w 10) (ix n) (ix_lt n)
  rw [e]
  intro q
  have h1 : (nI j).toInt = (j : Int) := nI_toInt (by have := ix_lt n; omega)
  rw [q] at h1
  have h2 : (-1 : Int32).toInt = -1 := rfl
  omega
theorem p_q_lh {w : Row} {n k : Int32} (h : p_okTicks n k) (a b : Int32) : ∀ j, p_q w n k a (j + 1) = p_q w n k b (j + 1)
  | 0 => by
    have e : ¬ p_by w (nI (10 + 0)) n k = -1 := by_10 h
    have s1 : ∀ c : Int32, p_q w n k c 1 = (nI (10 + 0), p_by w (nI (10 + 0)) n k) := fun c => by
      have e2 : (p_q w n k c 0).1 = -1 := rfl
      rw [p_q, if_pos ⟨e, Or.inl e2⟩, if_pos ⟨e, Or.inl e2⟩]
    rw [s1 a, s1 b]
  | j + 1 => by
    rw [p_q, p_q_lh h a b j, ← p_q]
