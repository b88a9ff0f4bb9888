theorem lt_nI {a b : Nat} (ha : a < 1000) (hb : b < 1000) : nI a < nI b ↔ a < b := by
  constructor
  · intro h
    rcases Nat.lt_or_ge a b with q | q
    · exact q
    · exact absurd h (nI_nlt q (by omega))
  · intro h
    exact nI_lt h (by omega)
theorem in_sn {i : Int32} {n : Nat} (h : p_in i 0 (nI n - 1)) (hn : n ≤ 40) : vp_in i n := by
  have key : ∀ n, n ≤ 40 → (nI n - 1).toInt < n := by decide +kernel
  exact vin_of h n (key n hn)
theorem fnd1 (fd : Row) : p_fnd fd (-1000001) = p_find fd 0 := congrArg (p_find fd) (by decide)
theorem fnd6 (fd : Row) : p_fnd fd (-1000006) = p_find fd 5 := congrArg (p_find fd) (by decide)
section LKS
variable {G : Gc} {s0 ears : Int32}
theorem swr_n (hG : GW G) (hs : p_in s0 0 3) (hn : ¬ G.sw (ix s0) = 0) : ¬ swr G (ix s0) = 0 := by
  intro h
  have h : nI (G.sw (ix s0)) = 0 := h
  rcases (hG (ix s0) (vin_lt (vin_of hs 4 (by decide)))).1 with q | q | q | q
  · exact hn q
  all_goals (rw [q] at h; exact absurd h (by decide))
theorem swr_0 (hn : G.sw (ix s0) = 0) : swr G (ix s0) = 0 := by
  show nI (G.sw (ix s0)) = 0
  rw [hn]; rfl
theorem lk_1 (hs : ¬ p_in s0 0 3) : p_lack (swr G) s0 = -1000001 := by rw [p_lack, if_neg hs]
theorem lk_2 (hs : p_in s0 0 3) (hn : G.sw (ix s0) = 0) : p_lack (swr G) s0 = -1000006 := by rw [p_lack, if_pos hs, if_pos (swr_0 hn)]
theorem lk_ok (hG : GW G) (hs : p_in s0 0 3) (hn : ¬ G.sw (ix s0) = 0) : p_lack (swr G) s0 = 0 := by rw [p_lack, if_pos hs, if_neg (swr_n hG hs hn)]
theorem lf_1 (hs : ¬ p_in s0 0 3) : p_lackF (swr G) s0 ears = -1000001 := by rw [p_lackF, lk_1 hs, if_neg (by decide)]
theorem lf_2 (hs : p_in s0 0 3) (hn : G.sw (ix s0) = 0) : p_lackF (swr G) s0 ears = -1000006 := by rw [p_lackF, lk_2 hs hn, if_neg (by decide)]
theorem lf_3 (hG : GW G) (hs : p_in s0 0 3) (hn : ¬ G.sw (ix s0) = 0) (he : ¬ p_in ears 0 2) : p_lackF (swr G) s0 ears = -1000001 := by rw [p_lackF, if_pos (lk_ok hG hs hn), if_neg he]
theorem lf_ok (hG : GW G) (hs : p_in s0 0 3) (hn : ¬ G.sw (ix s0) = 0) (he : p_in ears 0 2) : p_lackF (swr G) s0 ears = 0 := by rw [p_lackF, if_pos (lk_ok hG hs hn), if_pos he]
theorem snr_ix (hG : GW G) (hs : p_in s0 0 3) : ix (snr G (ix s0)) = G.sn (ix s0) := by
  have := (hG (ix s0) (vin_lt (vin_of hs 4 (by decide)))).2
  exact ix_nI (by omega)
variable {w fd sh : Row} {x i v : Int32} {f : Row}
theorem fits_t (h : p_lackF (swr G) s0 ears = x) (hx : ¬ x = 0) (hf : p_fnd fd x = f) : s_fits w fd (swr G) (snr G) sh s0 ears = (x.toInt64, f) := by
  rw [s_fits, if_neg (by rw [h]; exact hx), h, hf]
theorem fits_ok (hG : GW G) (hs : p_in s0 0 3) (hn : ¬ G.sw (ix s0) = 0) (he : p_in ears 0 2) : s_fits w fd (swr G) (snr G) sh s0 ears = (lN (p_fit w sh (40 * ix s0) (G.sn (ix s0)) ears 3 36), fd) := by
  rw [s_fits, if_pos (lf_ok hG hs hn he), snr_ix hG hs]
theorem heads_t (h : p_lackF (swr G) s0 ears = x) (hx : ¬ x = 0) (hf : p_fnd fd x = f) : s_headings w fd (swr G) (snr G) sh s0 ears = (x, f) := by
  rw [s_headings, if_neg (by rw [h]; exact hx), h, hf]
theorem heads_ok (hG : GW G) (hs : p_in s0 0 3) (hn : ¬ G.sw (ix s0) = 0) (he : p_in ears 0 2) : s_headings w fd (swr G) (snr G) sh s0 ears = (nI (p_pop (p_fit w sh (40 * ix s0) (G.sn (ix s0)) ears 4 4)), fd) := by
  rw [s_headings, if_pos (lf_ok hG hs hn he), snr_ix hG hs]
theorem write_t (h : p_lack (swr G) s0 = x) (hx : ¬ x = 0) (hf : p_fnd fd x = f) : s_write fd (swr G) (snr G) sh s0 i v = (x, sh, f) := by
  rw [s_write, if_neg (by rw [h]; exact hx), h, hf]
theorem write_n (hG : GW G) (hs : p_in s0 0 3) (hn : ¬ G.sw (ix s0) = 0) (hj : ¬ p_in i 0 (nI (G.sn (ix s0)) - 1)) : s_write fd (swr G) (snr G) sh s0 i v = (-1000001, sh, p_find fd 0) := by
  rw [s_write, if_pos (lk_ok hG hs hn), if_neg hj]
theorem write_ok (hG : GW G) (hs : p_in s0 0 3) (hn : ¬ G.sw (ix s0) = 0) (hj : p_in i 0 (nI (G.sn (ix s0)) - 1)) : s_write fd (swr G) (snr G) sh s0 i v = (1, upd sh (40 * ix s0 + ix i) (p_cut v (nI (G.sw (ix s0)))), fd) := by
  rw [s_write, if_pos (lk_ok hG hs hn), if_pos hj]
theorem load_t (h : p_lack (swr G) s0 = x) (hx : ¬ x = 0) (hf : p_fnd fd x = f) : s_load w fd (swr G) (snr G) sh s0 = (x, w, f) := by
  rw [s_load, if_neg (by rw [h]; exact hx), h, hf]
theorem load_ok (hG : GW G) (hs : p_in s0 0 3) (hn : ¬ G.sw (ix s0) = 0) : s_load w fd (swr G) (snr G) sh s0 = (nI (p_lds sh (40 * ix s0) (G.sn (ix s0)) 40 0), p_lay w sh (40 * ix s0) (p_lds sh (40 * ix s0) (G.sn (ix s0)) 40 0), fd) := by
  rw [s_load, if_pos (lk_ok hG hs hn), snr_ix hG hs]
theorem judge_t (h : p_lack (swr G) s0 = x) (hx : ¬ x = 0) (hf : p_fnd fd x = f) : s_judge w fd (swr G) (snr G) sh s0 = (x, f) := by
  rw [s_judge, if_neg (by rw [h]; exact hx), h, hf]
theorem judge_ok (hG : GW G) (hs : p_in s0 0 3) (hn : ¬ G.sw (ix s0) = 0) : s_judge w fd (swr G) (snr G) sh s0 = ((if p_rgt w sh (40 * ix s0) (G.sn (ix s0)) 40 0 = G.sn (ix s0) then 0 else 1 + nI (p_rgt w sh (40 * ix s0) (G.sn (ix s0)) 40 0)), fd) := by
  rw [s_judge, if_pos (lk_ok hG hs hn), snr_ix hG hs]
end LKS
theorem rgt_le {w nu : Row} {b n : Nat} : ∀ k i, p_rgt w nu b n k i ≤ i + k
  | 0, i => Nat.le_refl _
  | k + 1, i => by
    have := rgt_le (w := w) (nu := nu) (b := b) (n := n) k (i + 1)
    show (if _ then _ else _) ≤ _
    split <;> omega
