def p_rh (w : Row) (r : Int32) : Row := upd (upd (upd w 5 (r / 10)) 6 (rm r 10)) 7 0
def p_by (w : Row) (r n k : Int32) : Int32 := if p_runs (p_rh w r) (ix n) < k then -1 else p_heard (p_rh w r) (ix n)
def p_q (w : Row) (n k lh : Int32) : Nat → Int32 × Int32
  | 0 => (-1, lh)
  | j + 1 => (if ¬ p_by w (nI (10 + j)) n k = -1 ∧ ((p_q w n k lh j).1 = -1 ∨ p_by w (nI (10 + j)) n k < (p_q w n k lh j).2) then nI (10 + j) else (p_q w n k lh j).1, if ¬ p_by w (nI (10 + j)) n k = -1 ∧ ((p_q w n k lh j).1 = -1 ∨ p_by w (nI (10 + j)) n k < (p_q w n k lh j).2) then p_by w (nI (10 + j)) n k else (p_q w n k lh j).2)
theorem WF.rh {w : Row} (h : WF w) {j : Nat} (hj : j < 90) : WF (p_rh w (nI (10 + j))) := by
  obtain ⟨a3, ⟨a5, b5⟩, a6, a8, a1, ah, ak, as, an⟩ := h
  have key : ∀ j, j < 90 → ((decide (0 ≤ (nI (10 + j) / 10).toInt) && decide ((nI (10 + j) / 10).toInt < 10)) && (decide (¬ nI (10 + j) / 10 = 0) && (decide (0 ≤ (rm (nI (10 + j)) 10).toInt) && decide ((rm (nI (10 + j)) 10).toInt < 10)))) = true := by decide +kernel
  have k1 := key j hj
  obtain ⟨k1a, k1b⟩ := Bool.and_eq_true_iff.mp k1
  obtain ⟨k1b, k1c⟩ := Bool.and_eq_true_iff.mp k1b
  have e5 : p_rh w (nI (10 + j)) 5 = nI (10 + j) / 10 := rfl
  have e6 : p_rh w (nI (10 + j)) 6 = rm (nI (10 + j)) 10 := rfl
  refine ⟨a3, ⟨by rw [e5]; exact vin_b k1a, by rw [e5]; exact of_decide_eq_true k1b⟩, by rw [e6]; exact vin_b k1c, a8, a1, fun q hq => ?_, fun q hq => ?_, fun q hq => ?_, fun q hq => ?_⟩
  · unfold p_rh
    rw [upd_n (by omega), upd_n (by omega), upd_n (by omega), upd_n (by omega), upd_n (by omega), upd_n (by omega)]; exact ah q hq
  · unfold p_rh
    rw [upd_n (by omega), upd_n (by omega), upd_n (by omega)]; exact ak q hq
  · unfold p_rh
    rw [upd_n (by omega), upd_n (by omega), upd_n (by omega)]; exact as q hq
  · unfold p_rh
    rw [upd_n (by omega), upd_n (by omega), upd_n (by omega)]; exact an q hq
