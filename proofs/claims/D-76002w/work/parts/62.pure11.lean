theorem e_pm (x y : Int32) : x - 1 = y ↔ x = y + 1 := by
  constructor
  · intro h
    rw [← h]
    apply Int32.toBitVec_inj.mp
    rw [Int32.toBitVec_add, Int32.toBitVec_sub]
    exact (BitVec.sub_add_cancel _ _).symm
  · intro h; rw [h]; exact i_p1m1 y
theorem WF.put3 {w : Row} (h : WF w) {v : Nat} (hv : v < 36) : WF (upd w 3 (nI v)) := by
  obtain ⟨a3, ⟨a5, b5⟩, a6, a8, a1, ah, ak, as, an⟩ := h
  refine ⟨vp_in_nI hv (by decide), ⟨a5, b5⟩, a6, a8, a1, fun k hk => ?_, fun k hk => ?_, fun k hk => ?_, fun k hk => ?_⟩
  · rw [upd_n (by omega), upd_n (by omega)]; exact ah k hk
  · rw [upd_n (by omega)]; exact ak k hk
  · rw [upd_n (by omega)]; exact as k hk
  · rw [upd_n (by omega)]; exact an k hk
theorem WF.put4 {w : Row} (h : WF w) {x : Int32} : WF (upd w 4 x) := by
  obtain ⟨a3, ⟨a5, b5⟩, a6, a8, a1, ah, ak, as, an⟩ := h
  refine ⟨a3, ⟨a5, b5⟩, a6, a8, a1, fun k hk => ?_, fun k hk => ?_, fun k hk => ?_, fun k hk => ?_⟩
  · rw [upd_n (by omega), upd_n (by omega)]; exact ah k hk
  · rw [upd_n (by omega)]; exact ak k hk
  · rw [upd_n (by omega)]; exact as k hk
  · rw [upd_n (by omega)]; exact an k hk
theorem hold_neg {w : Row} (h : WF w) {k : Nat} (hk : k < 10) : w (10 + k) < 0 ↔ w (10 + k) = -1 := by
  rcases h.holds k hk with q | q
  · rw [q]; decide
  · constructor
    · intro z; exact absurd z (vin_nn q)
    · intro z; rw [z] at q; exact absurd (show (-1 : Int32) < 0 by decide) (vin_nn q)
theorem hold_in {w : Row} (h : WF w) {k : Nat} (hk : k < 10) (hn : ¬ w (10 + k) < 0) : vp_in (w (10 + k)) 8 := by
  rcases h.holds k hk with q | q
  · exact absurd (show w (10 + k) < 0 by rw [q]; decide) hn
  · exact vin_w q (Nat.lt_succ_iff.mp (vin_lt h.many))
theorem holding_eq {w : Row} (h : WF w) : p_holding w = p_sum (fun k => b2i (¬ w (10 + k) < 0)) 10 := by
  refine p_sum_congr 10 (fun k hk => b2i_c ?_)
  have e := hold_neg h hk
  exact ⟨fun z q => z (e.mp q), fun z q => z (e.mpr q)⟩
theorem ad2 (t : Int32) : t + 1 + 1 = t + 2 := Int32.add_assoc t 1 1
theorem ad3 (t : Int32) : t + 1 + 1 + 1 = t + 3 := (congrArg (· + 1) (ad2 t)).trans (Int32.add_assoc t 2 1)
theorem ad4 (t : Int32) : t + 1 + 1 + 1 + 1 = t + 4 := (congrArg (· + 1) (ad3 t)).trans (Int32.add_assoc t 3 1)
theorem tape_in {t n : Int32} (ht : vp_in t 121) (hn : p_in n 1 4) (h : ¬ 120 < t + n) : ∃ a m, a + m ≤ 120 ∧ 1 ≤ m ∧ m ≤ 4 ∧ t = nI a ∧ n = nI m := by
  obtain ⟨a, ha, rfl⟩ := vp_in_of ht (by decide)
  have hn2 : vp_in n 5 := by
    rw [vp_in_iff]
    have h1 := Int32.not_lt.mp hn.1
    have h2 := Int32.not_lt.mp hn.2
    rw [Int32.le_iff_toInt_le] at h1 h2
    have z : (1 : Int32).toInt = 1 := rfl
    have z2 : (4 : Int32).toInt = 4 := rfl
    omega
  obtain ⟨m, hm, rfl⟩ := vp_in_of hn2 (by decide)
  refine ⟨a, m, ?_, ?_, by omega, rfl, rfl⟩
  · rw [nI_add] at h
    rcases Nat.lt_or_ge 120 (a + m) with q | q
    · exact absurd (nI_lt (a := 120) q (by omega)) h
    · exact q
  · rcases Nat.eq_zero_or_pos m with q | q
    · subst q; exact absurd hn.1 (by decide)
    · exact q
theorem n1_4 {n : Int32} (hn : p_in n 1 4) : n = 1 ∨ n = 2 ∨ n = 3 ∨ n = 4 := by
  have hn2 : vp_in n 5 := by
    rw [vp_in_iff]
    have h1 := Int32.not_lt.mp hn.1
    have h2 := Int32.not_lt.mp hn.2
    rw [Int32.le_iff_toInt_le] at h1 h2
    have z : (1 : Int32).toInt = 1 := rfl
    have z2 : (4 : Int32).toInt = 4 := rfl
    omega
  obtain ⟨m, hm, rfl⟩ := vp_in_of hn2 (by decide)
  match m, hm with
  | 0, _ => exact absurd hn.1 (by decide)
  | 1, _ => exact Or.inl rfl
  | 2, _ => exact Or.inr (Or.inl rfl)
  | 3, _ => exact Or.inr (Or.inr (Or.inl rfl))
  | 4, _ => exact Or.inr (Or.inr (Or.inr rfl))
theorem tp_at {t : Int32} {n m : Nat} (ht : vp_in t 121) (h : ¬ 120 < t + nI n) (hn : n ≤ 4) (hm : m < n) : ix (t + nI m) = ix t + m ∧ vp_in (t + nI m) 120 := by
  obtain ⟨a, ha, rfl⟩ := vp_in_of ht (by decide)
  rw [nI_add] at h
  have q : a + n ≤ 120 := by
    rcases Nat.lt_or_ge 120 (a + n) with q | q
    · exact absurd (nI_lt (a := 120) q (by omega)) h
    · exact q
  rw [nI_add, ix_nI (by omega), ix_nI (by omega)]
  exact ⟨rfl, vp_in_nI (by omega) (by decide)⟩
def p_lby (nu mv : Row) (a n : Nat) : Row := fun k => if k < n then nu (a + k) else mv k
theorem p_lby_s (nu mv : Row) (a n : Nat) : upd (p_lby nu mv a n) n (nu (a + n)) = p_lby nu mv a (n + 1) := by
  funext j
  by_cases h : j = n
  · subst h; rw [upd_s]; exact (if_pos (by omega)).symm
  · rw [upd_n h]
    unfold p_lby
    by_cases q : j < n
    · rw [if_pos q, if_pos (by omega)]
    · rw [if_neg q, if_neg (by omega)]
theorem p_lby_0 (nu mv : Row) (a : Nat) : mv = p_lby nu mv a 0 := by
  funext j
  exact (if_neg (by omega)).symm
theorem p_mv_0 (nu : Row) (a b : Nat) : nu = p_mv nu a b 0 := by
  funext j
  exact (if_neg (by omega)).symm
theorem p_mv_s (nu : Row) (a b n : Nat) : upd (p_mv nu a b n) (b + n) (nu (a + n)) = p_mv nu a b (n + 1) := by
  funext j
  by_cases h : j = b + n
  · subst h; rw [upd_s]
    unfold p_mv
    rw [if_pos (by omega)]
    congr 1
    omega
  · rw [upd_n h]
    unfold p_mv
    by_cases q : b ≤ j ∧ j < b + n
    · rw [if_pos q, if_pos (by omega)]
    · rw [if_neg q, if_neg (by omega)]
theorem mv_in {f n z : Int32} (hz : vp_in z 41) (hn : ¬ n < 0) (hf : ¬ f < 0) (h : ¬ z - n < f) : ix f + ix n ≤ ix z ∧ vp_in f 41 := by
  obtain ⟨a, ha, rfl⟩ := vp_in_of hz (by decide)
  obtain ⟨b, hb, rfl⟩ := nI_of hn
  obtain ⟨c, hc, rfl⟩ := nI_of hf
  have e1 := Int32.not_lt.mp h
  rw [Int32.le_iff_toInt_le, nI_toInt hc, Int32.toInt_sub, nI_toInt (by omega), nI_toInt hb, Int.bmod_def] at e1
  rw [ix_nI hc, ix_nI hb, ix_nI (by omega)]
  have q : c + b ≤ a := by omega
  exact ⟨q, vp_in_nI (by omega) (by decide)⟩
theorem mv_long {f n z : Int32} (hz : vp_in z 41) (hn : ¬ n < 0) (hf : ¬ f < 0) : 0 < lg_cmp (f.toInt64 + n.toInt64) z.toInt64 ↔ z - n < f := by
  rw [lg_cmp_gt, Int64.lt_iff_toInt_lt, lg_i2l_add, Int32.toInt_toInt64, Int32.lt_iff_toInt_lt, Int32.toInt_sub]
  obtain ⟨a, ha, rfl⟩ := vp_in_of hz (by decide)
  obtain ⟨b, hb, rfl⟩ := nI_of hn
  obtain ⟨c, hc, rfl⟩ := nI_of hf
  rw [nI_toInt hc, nI_toInt hb, nI_toInt (by omega), Int.bmod_def]
  omega
