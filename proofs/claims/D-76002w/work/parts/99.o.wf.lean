theorem pin_ix {c : Int32} {n : Int32} {N : Nat} (h : p_in c 0 n) (hn : n.toInt < N) : ix c < N := vin_lt (vin_of h N hn)
theorem wf_cell {w fd : Row} {c what v : Int32} (h : WF w) : WF (s_cell w fd c what v).2.1 := by
  unfold s_cell
  by_cases q : p_in c 0 35 ∧ p_in what 0 1 ∧ p_in v 0 (if what = 0 then 30 else 99)
  · rw [if_pos q]
    have hc := pin_ix (N := 36) q.1 (by decide)
    by_cases e : what = 0
    · rw [if_pos e]
      exact h.put (q := 20 + ix c) (by omega) (by omega) (by omega) (by omega) (by omega) (by omega) (fun _ _ => q.2.2.1) (by omega)
    · rw [if_neg e]
      exact h.put (q := 56 + ix c) (by omega) (by omega) (by omega) (by omega) (by omega) (by omega) (fun _ _ => q.2.2.1) (by omega)
  · rw [if_neg q]
    exact h
theorem wf_mouse {w fd : Row} {what v : Int32} (h : WF w) : WF (s_mouse w fd what v).2.1 := by
  unfold s_mouse
  split
  · rename_i q
    unfold p_okMouse at q
    split at q
    · rename_i e
      subst e
      exact h.put (q := 3) (by decide) (fun _ => vin_of q 36 (by decide)) (by omega) (by omega) (by omega) (by omega) (by omega) (by omega)
    · split at q
      · rename_i e
        subst e
        exact h.put (q := 4) (by decide) (by omega) (by omega) (by omega) (by omega) (by omega) (by omega) (by omega)
      · split at q
        · rename_i e
          subst e
          exact h.put (q := 5) (by decide) (by omega) (fun _ => ⟨vin_of (in_10 q.1) 10 (by decide), in_ne q.1⟩) (by omega) (by omega) (by omega) (by omega) (by omega)
        · split at q
          · rename_i e
            subst e
            exact h.put (q := 6) (by decide) (by omega) (by omega) (fun _ => vin_of q.1 10 (by decide)) (by omega) (by omega) (by omega) (by omega)
          · split at q
            · rename_i e
              subst e
              exact h.put (q := 7) (by decide) (by omega) (by omega) (by omega) (by omega) (by omega) (by omega) (by omega)
            · exact q.elim
  · exact h
theorem wf_owl {w fd : Row} {what v : Int32} (h : WF w) : WF (s_owl w fd what v).2.1 := by
  unfold s_owl
  split
  · rename_i q
    rcases q with ⟨e, q⟩ | ⟨e, q⟩
    · subst e
      exact h.put (q := 8) (by decide) (by omega) (by omega) (by omega) (fun _ => vin_of q 36 (by decide)) (by omega) (by omega) (by omega)
    · subst e
      exact h.put9
  · exact h
theorem wf_strike {w fd : Row} {kind aim : Int32} (h : WF w) : WF (s_strike w fd kind aim).2.1 := by
  unfold s_strike
  split
  · rename_i q
    split
    · exact h
    · rename_i e
      exact h.add (vin_of q.1 7 (by decide)) (many_lt h e)
  · exact h
theorem wf_change {w fd : Row} {k what v : Int32} (h : WF w) : WF (s_change w fd k what v).2.1 := by
  unfold s_change
  split
  · rename_i q
    have q2 := q.2
    unfold p_okTold at q2
    split at q2
    · rename_i e
      subst e
      exact h.put (q := 92 + 0 + 4 * ix k) (by omega) (by omega) (by omega) (by omega) (by omega) (by omega) (by omega) (fun _ _ => vin_of q2 7 (by decide))
    · split at q2
      · rename_i e
        subst e
        exact h.putS (q := 92 + 1 + 4 * ix k) (by omega) (by omega)
      · split at q2
        · rename_i e
          subst e
          exact h.putS (q := 92 + 2 + 4 * ix k) (by omega) (by omega)
        · split at q2
          · rename_i e
            subst e
            exact h.putS (q := 92 + 3 + 4 * ix k) (by omega) (by omega)
          · exact q2.elim
  · exact h
theorem wf_35 {w : Row} (h : WF w) : vp_in (35 - w 3) 36 := by
  obtain ⟨j, hj, e⟩ := vp_in_of h.mouse (by decide)
  rw [e]
  have : (35 : Int32) - nI j = nI (35 - j) := by
    have e2 : nI 35 = nI (35 - j) + nI j := by rw [nI_add]; congr 1; omega
    show nI 35 - nI j = _
    rw [e2, Int32.add_sub_cancel]
  rw [this]
  exact vp_in_nI (by omega) (by decide)
theorem wf_made {w : Row} {k : Int32} (h : WF w) : WF (s_made w k).2 := by
  unfold s_made
  split
  · have h1 := h.ticks (ix (p_takes w k))
    have h2 := h1.putS (q := 95 + 4 * ix k) (x := mn 999 (p_ticks (ix (p_takes w k)) w (95 + 4 * ix k) + 1)) (by omega) (by omega)
    have h3 := h2.put (q := 3) (x := 35 - p_ticks (ix (p_takes w k)) w 3) (by decide) (fun _ => wf_35 h1) (by omega) (by omega) (by omega) (by omega) (by omega) (by omega)
    exact h3.put (q := 7) (by decide) (by omega) (by omega) (by omega) (by omega) (by omega) (by omega) (by omega)
  · exact h.ticks _
theorem wf_strikes {w fd : Row} {k : Int32} (h : WF w) : WF (s_strikes w fd k).2.1 := by
  unfold s_strikes
  split
  · split
    · exact h
    · exact wf_made h
  · exact h
theorem wf_go {w fd : Row} {n : Int32} (h : WF w) : WF (s_go w fd n).2.1 := by
  unfold s_go
  split
  · split
    · exact h
    · exact h.ticks _
  · exact h
theorem wf_leaves {w fd : Row} {n : Int32} (h : WF w) : WF (s_leaves w fd n).2.1 := by
  unfold s_leaves
  split
  · split
    · exact h
    · exact h.lv _
  · exact h
theorem wf_hold {w fd : Row} {spot k : Int32} (h : WF w) : WF (s_hold w fd spot k).2.1 := by
  unfold s_hold
  split
  · rename_i q
    have hs := pin_ix (N := 10) q.1 (by decide)
    exact h.put (by omega) (by omega) (by omega) (by omega) (by omega) (fun _ _ => q.2.elim Or.inl (fun z => Or.inr (strike_in h z))) (by omega) (by omega)
  · exact h
theorem lds_ok {nu : Row} {b n : Nat} : ∀ k i j, j < p_lds nu b n k i → ¬ j < i → ¬ nu (b + j) < 0
  | 0, i, j, h, h' => absurd h h'
  | k + 1, i, j, h, h' => by
    by_cases c : i < n ∧ i < 36 ∧ p_in (nu (b + i)) 0 30
    · have e : p_lds nu b n (k + 1) i = p_lds nu b n k (i + 1) := if_pos c
      rw [e] at h
      by_cases q : j = i
      · rw [q]
        exact c.2.2.1
      · exact lds_ok k (i + 1) j h (by omega)
    · have e : p_lds nu b n (k + 1) i = i := if_neg c
      rw [e] at h
      exact absurd h h'
theorem lds_36 {nu : Row} {b n : Nat} : ∀ k i, i ≤ 36 → p_lds nu b n k i ≤ 36
  | 0, i, h => h
  | k + 1, i, h => by
    by_cases c : i < n ∧ i < 36 ∧ p_in (nu (b + i)) 0 30
    · have e : p_lds nu b n (k + 1) i = p_lds nu b n k (i + 1) := if_pos c
      rw [e]
      exact lds_36 k (i + 1) (by omega)
    · have e : p_lds nu b n (k + 1) i = i := if_neg c
      rw [e]
      exact h
theorem wf_lay {w nu : Row} {b n : Nat} (h : WF w) (hn : n ≤ 36) (h0 : ∀ j, j < n → ¬ nu (b + j) < 0) : WF (p_lay w nu b n) := by
  have lo : ∀ q, ¬ (20 ≤ q ∧ q < 20 + n) → p_lay w nu b n q = w q := fun q hq => if_neg hq
  obtain ⟨a3, ⟨a5, b5⟩, a6, a8, a1, ah, ak, as, an⟩ := h
  refine ⟨by rw [lo _ (by omega)]; exact a3, ⟨by rw [lo _ (by omega)]; exact a5, by rw [lo _ (by omega)]; exact b5⟩, by rw [lo _ (by omega)]; exact a6, by rw [lo _ (by omega)]; exact a8, by rw [lo _ (by omega)]; exact a1, fun k hk => ?_, fun k hk => ?_, fun k hk => ?_, fun k hk => ?_⟩
  · rw [lo _ (by omega), lo _ (by omega)]; exact ah k hk
  · rw [lo _ (by omega)]; exact ak k hk
  · by_cases c : 20 ≤ 20 + k ∧ 20 + k < 20 + n
    · have e : p_lay w nu b n (20 + k) = nu (b + (20 + k - 20)) := if_pos c
      rw [e, show 20 + k - 20 = k by omega]
      exact h0 k (by omega)
    · rw [lo _ c]; exact as k hk
  · rw [lo _ (by omega)]; exact an k hk
theorem wf_load {w fd ws sz nu : Row} {s0 : Int32} (h : WF w) : WF (s_load w fd ws sz nu s0).2.1 := by
  unfold s_load
  split
  · exact wf_lay h (lds_36 _ _ (by decide)) (fun j hj => lds_ok _ _ j hj (by omega))
  · exact h
theorem wf_seed {w : Row} {v : Int32} (h : WF w) : WF (upd w 2 v) := h.put (by decide) (by omega) (by omega) (by omega) (by omega) (by omega) (by omega) (by omega)
theorem wf_undo {w fd kp sc : Row} (h : WF w) (hk : ¬ sc 1 = 0 → WF kp) : WF (s_undo w fd kp sc).2.1 := by
  unfold s_undo
  split
  · exact h
  · rename_i q
    exact hk q
theorem feed_in {fd tp : Row} {t b n : Int32} (ht : vp_in t 121) : vp_in (s_feed fd tp t b n).2.1 121 := by
  unfold s_feed
  split
  · rename_i q
    split
    · exact ht
    · rename_i h2
      show vp_in (t + n) 121
      obtain ⟨a, ha, e⟩ := vp_in_of ht (by decide)
      have q1 : p_in n 0 4 := ⟨fun z => q.1 (by
        rw [Int32.lt_iff_toInt_lt] at z ⊢
        have e0 : (0 : Int32).toInt = 0 := by decide
        have e1 : (1 : Int32).toInt = 1 := by decide
        omega), q.2⟩
      obtain ⟨c, hc, e2⟩ := vp_in_of (vin_of q1 5 (by decide)) (by decide)
      rw [e, e2, nI_add] at h2 ⊢
      have := fun z => h2 ((lt_nI (a := 120) (b := a + c) (by decide) (by omega)).mpr z)
      exact vp_in_nI (Nat.lt_succ_of_le (Nat.le_of_not_lt this)) (by decide)
  · exact ht
theorem rhy_1 {w fd sc : Row} {n k : Int32} : (s_rhythm w fd sc n k).1 = (s_rhythm2 w fd n k).1 ∧ (s_rhythm w fd sc n k).2.1 = (s_rhythm2 w fd n k).2 ∧ (∀ j, j ≠ 2 → (s_rhythm w fd sc n k).2.2 j = sc j) := by
  unfold s_rhythm s_rhythm2
  split
  · exact ⟨rfl, rfl, fun j hj => upd_n hj⟩
  · exact ⟨rfl, rfl, fun j hj => rfl⟩
theorem lea_1 {w fd sc : Row} {n k : Int32} : (s_least w fd sc n k).1 = (s_least2 w fd n k).1 ∧ (s_least w fd sc n k).2.1 = (s_least2 w fd n k).2 ∧ (∀ j, j ≠ 2 → (s_least w fd sc n k).2.2 j = sc j) := by
  unfold s_least s_least2
  split
  · exact ⟨rfl, rfl, fun j hj => upd_n hj⟩
  · exact ⟨rfl, rfl, fun j hj => rfl⟩
