theorem of_out {x : Int32} (h : ¬ p_in x 0 7) : ¬ x = 0 ∧ ¬ x = 1 ∧ ¬ x = 2 ∧ ¬ x = 3 ∧ ¬ x = 4 ∧ ¬ x = 5 ∧ ¬ x = 6 ∧ ¬ x = 7 := by
  refine ⟨?_, ?_, ?_, ?_, ?_, ?_, ?_, ?_⟩ <;> rintro rfl <;> exact h (by decide)
theorem of_03 {x : Int32} (h : p_in x 0 7) (h4 : ¬ x = 4) (h5 : ¬ x = 5) (h6 : ¬ x = 6) (h7 : ¬ x = 7) : x = 0 ∨ x = 1 ∨ x = 2 ∨ x = 3 := by
  obtain ⟨j, hj, rfl⟩ := vp_in_of (vin_of h 8 (by decide)) (by decide)
  match j, hj with
  | 0, _ => exact Or.inl rfl
  | 1, _ => exact Or.inr (Or.inl rfl)
  | 2, _ => exact Or.inr (Or.inr (Or.inl rfl))
  | 3, _ => exact Or.inr (Or.inr (Or.inr rfl))
  | 4, _ => exact absurd rfl h4
  | 5, _ => exact absurd rfl h5
  | 6, _ => exact absurd rfl h6
  | 7, _ => exact absurd rfl h7
theorem ltix {i : Nat} {x : Int32} (hi : i < 2147483648) : nI i < x ↔ i < ix x := by
  constructor
  · intro h
    have h0 : ¬ x < 0 := fun q => by
      rw [Int32.lt_iff_toInt_lt] at h q
      rw [nI_toInt hi] at h
      have z : (0 : Int32).toInt = 0 := rfl
      omega
    obtain ⟨j, hj, rfl⟩ := nI_of h0
    rw [ix_nI hj]
    exact (nI_ltI hi hj).mp h
  · exact lt_ix
theorem in35 {i : Nat} (hi : i < 1000) : p_in (nI i) 0 35 ↔ i < 36 := by
  constructor
  · intro h
    have := vin_lt (vin_of h 36 (by decide))
    rwa [ix_nI (by omega)] at this
  · intro h
    have key : ∀ i, i < 36 → p_in (nI i) 0 35 := by decide +kernel
    exact key i h
theorem p_lay_0 (w nu : Row) (b : Nat) : w = p_lay w nu b 0 := by
  funext q
  exact (if_neg (by omega)).symm
theorem p_lay_s (w nu : Row) (b n : Nat) : upd (p_lay w nu b n) (20 + n) (nu (b + n)) = p_lay w nu b (n + 1) := by
  funext q
  by_cases h : q = 20 + n
  · subst h; rw [upd_s]
    unfold p_lay
    rw [if_pos (by omega)]
    congr 1
    omega
  · rw [upd_n h]
    unfold p_lay
    by_cases z : 20 ≤ q ∧ q < 20 + n
    · rw [if_pos z, if_pos (by omega)]
    · rw [if_neg z, if_neg (by omega)]
theorem lds_t {nu : Row} {b n k i : Nat} (h : i < n ∧ i < 36 ∧ p_in (nu (b + i)) 0 30) : p_lds nu b n (k + 1) i = p_lds nu b n k (i + 1) := if_pos h
theorem lds_f {nu : Row} {b n k i : Nat} (h : ¬ (i < n ∧ i < 36 ∧ p_in (nu (b + i)) 0 30)) : p_lds nu b n (k + 1) i = i := if_neg h
theorem rgt_t {w nu : Row} {b n k i : Nat} (h : i < n ∧ nu (b + i) = p_ticks i w 3) : p_rgt w nu b n (k + 1) i = p_rgt w nu b n k (i + 1) := if_pos h
theorem rgt_f {w nu : Row} {b n k i : Nat} (h : ¬ (i < n ∧ nu (b + i) = p_ticks i w 3)) : p_rgt w nu b n (k + 1) i = i := if_neg h
theorem ix3 {s f : Int32} {i : Nat} (hs : vp_in s 4) (hf : vp_in f 41) (h : ix f + i < 40) : ix (40 * s + f + nI i) = 40 * ix s + ix f + i ∧ vp_in (40 * s + f + nI i) 160 := by
  obtain ⟨a, ha, rfl⟩ := vp_in_of hs (by decide)
  obtain ⟨b, hb, rfl⟩ := vp_in_of hf (by decide)
  rw [ix_nI (by omega)] at h
  have e : (40 : Int32) * nI a = nI (40 * a) := nI_ml 40 a
  rw [e, nI_add, nI_add, ix_nI (by omega), ix_nI (by omega), ix_nI (by omega)]
  exact ⟨rfl, vp_in_nI (by omega) (by decide)⟩
theorem WF.lay {w nu : Row} (h : WF w) {b n : Nat} (hn : n ≤ 36) (hp : ∀ i, i < n → ¬ nu (b + i) < 0) : WF (p_lay w nu b n) := by
  obtain ⟨a3, ⟨a5, b5⟩, a6, a8, a1, ah, ak, as, an⟩ := h
  have e : ∀ q, q < 20 ∨ 56 ≤ q → p_lay w nu b n q = w q := fun q hq => if_neg (by omega)
  refine ⟨by rw [e 3 (by omega)]; exact a3, ⟨by rw [e 5 (by omega)]; exact a5, by rw [e 5 (by omega)]; exact b5⟩, by rw [e 6 (by omega)]; exact a6, by rw [e 8 (by omega)]; exact a8, by rw [e 1 (by omega)]; exact a1, fun k hk => ?_, fun k hk => ?_, fun k hk => ?_, fun k hk => ?_⟩
  · rw [e _ (by omega), e 1 (by omega)]; exact ah k hk
  · rw [e _ (by omega)]; exact ak k hk
  · unfold p_lay
    by_cases z : 20 ≤ 20 + k ∧ 20 + k < 20 + n
    · rw [if_pos z]
      have : 20 + k - 20 = k := by omega
      rw [this]
      exact hp k (by omega)
    · rw [if_neg z]; exact as k hk
  · rw [e _ (by omega)]; exact an k hk
theorem lack_0 {ws : Row} {s : Int32} (h : p_lack ws s = 0) : p_in s 0 3 ∧ ¬ ws (ix s) = 0 := by
  unfold p_lack at h
  by_cases c : p_in s 0 3
  · rw [if_pos c] at h
    by_cases q : ws (ix s) = 0
    · rw [if_pos q] at h; exact absurd h (by decide)
    · exact ⟨c, q⟩
  · rw [if_neg c] at h; exact absurd h (by decide)
theorem lack_n {ws : Row} {s : Int32} (h : ¬ p_lack ws s = 0) : p_lack ws s = -1000001 ∨ p_lack ws s = -1000006 := by
  unfold p_lack at h ⊢
  by_cases c : p_in s 0 3
  · rw [if_pos c] at h ⊢
    by_cases q : ws (ix s) = 0
    · rw [if_pos q]; exact Or.inr rfl
    · rw [if_neg q] at h; exact absurd rfl h
  · rw [if_neg c]; exact Or.inl rfl
theorem lackF_0 {ws : Row} {s e : Int32} (h : p_lackF ws s e = 0) : p_lack ws s = 0 ∧ p_in e 0 2 := by
  unfold p_lackF at h
  by_cases c : p_lack ws s = 0
  · rw [if_pos c] at h
    by_cases q : p_in e 0 2
    · exact ⟨c, q⟩
    · rw [if_neg q] at h; exact absurd h (by decide)
  · rw [if_neg c] at h; exact absurd h c
theorem lackF_n {ws : Row} {s e : Int32} (h : ¬ p_lackF ws s e = 0) : p_lackF ws s e = -1000001 ∨ p_lackF ws s e = -1000006 := by
  unfold p_lackF at h ⊢
  by_cases c : p_lack ws s = 0
  · rw [if_pos c] at h ⊢
    by_cases q : p_in e 0 2
    · rw [if_pos q] at h; exact absurd rfl h
    · rw [if_neg q]; exact Or.inl rfl
  · rw [if_neg c]; exact lack_n c
theorem fnd_k {v : Int32} (h : v = -1000001 ∨ v = -1000006) : vp_in (-1000001 - v) 7 ∧ -1000001 - (-1000001 - v) = v := by
  rcases h with rfl | rfl
  · exact ⟨vin_b rfl, by decide⟩
  · exact ⟨vin_b rfl, by decide⟩
theorem areSo_s {w nu : Row} {b n : Nat} {e : Int32} (h : p_areSo w nu b n e) (h2 : p_isSo (p_ticks n w) (nu (b + n)) e) : p_areSo w nu b (n + 1) e := fun i hi => by
  rcases Nat.lt_or_ge i n with q | q
  · exact h i q
  · have : i = n := by omega
    subst this
    exact h2
