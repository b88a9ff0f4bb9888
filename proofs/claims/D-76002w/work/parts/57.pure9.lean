theorem fst_none {P : Nat → Prop} [DecidablePred P] {n : Nat} (h : p_set P n = 0) : p_fst P n 0 = -1 := by
  rcases p_fst_spec P n 0 with ⟨e, -⟩ | ⟨v, -, h2, h3, -⟩
  · exact e
  · exact absurd h3 ((p_set_0 P n).mp h v (by omega))
theorem fst_set (P : Nat → Prop) [DecidablePred P] (n : Nat) : p_fst P n 0 = p_fst (fun v => (p_set P n).testBit v = true) n 0 := by
  refine p_fst_congr _ _ n 0 (fun j _ h2 => ?_)
  rw [p_set_bit]
  have : j < n := by omega
  simp [this]
theorem wait_some {P : Nat → Prop} [DecidablePred P] (h : ¬ p_set P 10 = 0) : p_fst P 10 0 = nI (p_pop ((p_set P 10 ^^^ (p_set P 10 - 1)) / 2)) := by
  rw [fst_set P 10]
  exact (wait_bits (p_set P 10) (p_set_lt P 10) h).2.2
theorem set10 {P : Nat → Prop} [DecidablePred P] : nI (p_set P 10) = 0 ↔ p_set P 10 = 0 := by
  have := p_set_lt P 10
  rw [← nI_0, nI_eq (by omega) (by omega)]
theorem pop_lt (m : Nat) : p_pop m < 2147483648 := by unfold p_pop; omega
theorem bit_at {P : Nat → Prop} [DecidablePred P] {n i : Nat} (hn : n ≤ 60) (hi : i < n) : lg_cmp (lN (p_set P n) >>> ((nI i).toInt64 &&& 63) &&& 1) 0 = 0 ↔ ¬ P i := by
  have hlt : p_set P n < 2 ^ 60 := Nat.lt_of_lt_of_le (p_set_lt P n) (Nat.pow_le_pow_right (by decide) hn)
  rw [lg_cmp_eq, wb_c i (by omega)]
  have hsm : ((lN i).toBitVec.smod 64).toNat = i := by
    rw [wb_tb, wb_sm i (by omega), BitVec.toNat_ofNat]
    omega
  have e1 : lN (p_set P n) >>> lN i = lN (p_set P n / 2 ^ i) := by
    have hd : p_set P n / 2 ^ i ≤ p_set P n := Nat.div_le_self _ _
    apply Int64.toInt_inj.mp
    have e : (lN (p_set P n) >>> lN i).toInt = (lN (p_set P n)).toInt >>> ((lN i).toBitVec.smod 64).toNat := BitVec.toInt_sshiftRight ..
    rw [hsm] at e
    rw [e, Int.shiftRight_eq_div_pow, show (lN (p_set P n)).toInt = (p_set P n : Int) from lg_ofNat_toInt (by omega), show (lN (p_set P n / 2 ^ i)).toInt = ((p_set P n / 2 ^ i : Nat) : Int) from lg_ofNat_toInt (by omega)]
    rfl
  have hlt2 : p_set P n / 2 ^ i < 2 ^ 64 := by have := Nat.div_le_self (p_set P n) (2 ^ i); omega
  rw [e1, wb_a1 hlt2]
  have hb := p_set_bit P n i
  rw [Nat.testBit_eq_decide_div_mod_eq] at hb
  have e2 : lN (p_set P n / 2 ^ i % 2) = 0 ↔ p_set P n / 2 ^ i % 2 = 0 := lN_eq (b := 0) (by omega) (by decide)
  rw [e2]
  by_cases q : P i
  · simp [hi, q] at hb
    simp [q, hb]
  · simp [hi, q] at hb
    simp [q]; omega
theorem nI_dv {a b : Nat} (ha : a < 2147483648) (hb : b < 2147483648) : nI a / nI b = nI (a / b) := by
  have hd : a / b ≤ a := Nat.div_le_self _ _
  apply Int32.toInt_inj.mp
  rw [Int32.toInt_div_of_ne_right _ _ (nI_ne1 hb), nI_toInt ha, nI_toInt hb, nI_toInt (by omega)]
  exact (Int.ofNat_tdiv a b).symm
theorem nI_ml (a b : Nat) : nI a * nI b = nI (a * b) := by
  apply Int32.toBitVec_inj.1
  show BitVec.ofNat 32 a * BitVec.ofNat 32 b = BitVec.ofNat 32 (a * b)
  rw [BitVec.ofNat_mul]
theorem rm_nI {a b : Nat} (ha : a < 2147483648) (hb : b < 2147483648) : rm (nI a) (nI b) = nI (a % b) := by
  unfold rm
  rw [nI_dv ha hb, nI_ml]
  have e : nI a = nI (a % b) + nI (a / b * b) := by
    rw [nI_add]
    congr 1
    have := Nat.div_add_mod a b
    rw [Nat.mul_comm] at this
    omega
  rw [e]
  apply Int32.toBitVec_inj.mp
  rw [Int32.toBitVec_sub, Int32.toBitVec_add]
  exact BitVec.add_sub_cancel _ _
theorem tick_5 (w : Row) : p_tick w 5 = w 5 ∧ p_tick w 6 = w 6 ∧ p_tick w 7 = rm (w 7 + 1) (w 5 + w 6) := by
  unfold p_tick
  refine ⟨?_, ?_, ?_⟩
  · rw [upd_n (by decide), upd_n (by decide)]
    split
    · rw [upd_n (by decide), upd_n (by decide)]
    · rfl
  · rw [upd_n (by decide), upd_n (by decide)]
    split
    · rw [upd_n (by decide), upd_n (by decide)]
    · rfl
  · rw [upd_n (by decide), upd_s]
theorem ticks_7 {w : Row} (hw : WF w) (h7 : w 7 = 0) : ∀ i, i < 2147483000 → p_ticks i w 5 = w 5 ∧ p_ticks i w 6 = w 6 ∧ p_ticks i w 7 = rm (nI i) (w 5 + w 6) := by
  obtain ⟨a, ha, e5⟩ := vp_in_of hw.run (by decide)
  obtain ⟨b, hb, e6⟩ := vp_in_of hw.pause (by decide)
  have hs : w 5 + w 6 = nI (a + b) := by rw [e5, e6, nI_add]
  have h0 : 0 < a + b := by
    rcases Nat.eq_zero_or_pos a with h | h
    · subst h; exact absurd e5 hw.run0
    · omega
  intro i
  induction i with
  | zero =>
    intro _
    refine ⟨rfl, rfl, ?_⟩
    show w 7 = _
    rw [h7, hs, rm_nI (by omega) (by omega), Nat.zero_mod]
    rfl
  | succ i ih =>
    intro hi
    obtain ⟨i5, i6, i7⟩ := ih (by omega)
    obtain ⟨t5, t6, t7⟩ := tick_5 (p_ticks i w)
    refine ⟨t5.trans i5, t6.trans i6, t7.trans ?_⟩
    have hm : i % (a + b) < a + b := Nat.mod_lt _ h0
    rw [i5, i6, i7, hs, rm_nI (by omega) (by omega), nI_1, rm_nI (by omega) (by omega), rm_nI (by omega) (by omega)]
    congr 1
    rw [Nat.mod_add_mod]
theorem ran_runs {w : Row} (hw : WF w) (h7 : w 7 = 0) {n : Nat} (hn : n < 2147483000) : p_ran w n = p_runs w n := by
  refine p_sum_congr n (fun i hi => ?_)
  obtain ⟨i5, -, i7⟩ := ticks_7 hw h7 i (by omega)
  show (if p_ticks i w 7 < p_ticks i w 5 then 1 else 0) = _
  rw [i5, i7]
def p_qm (w : Row) (n k : Int32) : Nat → Int32 × Int32
  | 0 => (-1, n + 1)
  | j + 1 => (if ¬ p_ran (p_rh w (nI (10 + j))) (ix n) < k ∧ p_heard (p_rh w (nI (10 + j))) (ix n) < (p_qm w n k j).2 then nI (10 + j) else (p_qm w n k j).1, if ¬ p_ran (p_rh w (nI (10 + j))) (ix n) < k ∧ p_heard (p_rh w (nI (10 + j))) (ix n) < (p_qm w n k j).2 then p_heard (p_rh w (nI (10 + j))) (ix n) else (p_qm w n k j).2)
theorem okt_n {n k : Int32} (h : p_okTicks n k) : ∃ m, m ≤ 60 ∧ 1 ≤ m ∧ n = nI m := by
  have h2 : vp_in n 61 := by
    rw [vp_in_iff]
    have h1 := Int32.not_lt.mp h.1.1
    have h2 := Int32.not_lt.mp h.1.2
    rw [Int32.le_iff_toInt_le] at h1 h2
    have z : (1 : Int32).toInt = 1 := rfl
    have z2 : (60 : Int32).toInt = 60 := rfl
    omega
  obtain ⟨m, hm, rfl⟩ := vp_in_of h2 (by decide)
  refine ⟨m, by omega, ?_, rfl⟩
  rcases Nat.eq_zero_or_pos m with q | q
  · subst q; exact absurd h.1.1 (by decide)
  · exact q
theorem qm_q {w : Row} {n k : Int32} (hw : WF w) (h : p_okTicks n k) : ∀ j, j ≤ 90 → ((p_q w n k 0 j).1 = -1 ∧ p_qm w n k j = (-1, n + 1)) ∨ ((∃ i, i < j ∧ (p_q w n k 0 j).1 = nI (10 + i)) ∧ p_qm w n k j = p_q w n k 0 j) := by
  obtain ⟨m, hm, hm1, rfl⟩ := okt_n h
  have em : ix (nI m) = m := ix_nI (by omega)
  intro j
  induction j with
  | zero => intro _; exact Or.inl ⟨rfl, rfl⟩
  | succ j ih =>
    intro hj
    have hr : p_ran (p_rh w (nI (10 + j))) (ix (nI m)) = p_runs (p_rh w (nI (10 + j))) (ix (nI m)) := ran_runs (hw.rh (by omega)) rfl (by omega)
    obtain ⟨t, ht, et⟩ := heard_ne (p_rh w (nI (10 + j))) (ix (nI m)) (by omega)
    rw [em] at ht
    have hne : ¬ p_heard (p_rh w (nI (10 + j))) (ix (nI m)) = -1 := by rw [et]; exact nI_ne1 (by omega)
    have hlt : p_heard (p_rh w (nI (10 + j))) (ix (nI m)) < nI m + 1 := by
      rw [et, nI_1]
      exact nI_lt (by omega) (by omega)
    have hby : p_by w (nI (10 + j)) (nI m) k = if p_ran (p_rh w (nI (10 + j))) (ix (nI m)) < k then -1 else p_heard (p_rh w (nI (10 + j))) (ix (nI m)) := by rw [p_by, hr]
    by_cases c : p_ran (p_rh w (nI (10 + j))) (ix (nI m)) < k
    · have b1 : p_by w (nI (10 + j)) (nI m) k = -1 := by rw [hby, if_pos c]
      have s1 : p_q w (nI m) k 0 (j + 1) = p_q w (nI m) k 0 j := by
        rw [p_q, if_neg (fun z => z.1 b1), if_neg (fun z => z.1 b1)]
      have s2 : p_qm w (nI m) k (j + 1) = p_qm w (nI m) k j := by
        rw [p_qm, if_neg (fun z => z.1 c), if_neg (fun z => z.1 c)]
      rw [s1, s2]
      rcases ih (by omega) with q | ⟨⟨i, hi, e⟩, q⟩
      · exact Or.inl q
      · exact Or.inr ⟨⟨i, by omega, e⟩, q⟩
    · have b1 : p_by w (nI (10 + j)) (nI m) k = p_heard (p_rh w (nI (10 + j))) (ix (nI m)) := by rw [hby, if_neg c]
      rcases ih (by omega) with ⟨q1, q2⟩ | ⟨⟨i, hi, e⟩, q⟩
      · refine Or.inr ⟨⟨j, by omega, ?_⟩, ?_⟩
        · rw [p_q, b1, if_pos ⟨hne, Or.inl q1⟩]
        · rw [p_q, p_qm, q2, b1, if_pos ⟨c, hlt⟩, if_pos ⟨c, hlt⟩, if_pos ⟨hne, Or.inl q1⟩, if_pos ⟨hne, Or.inl q1⟩]
      · have q3 : ¬ (p_q w (nI m) k 0 j).1 = -1 := by rw [e]; exact nI_ne1 (by omega)
        by_cases g : p_heard (p_rh w (nI (10 + j))) (ix (nI m)) < (p_q w (nI m) k 0 j).2
        · refine Or.inr ⟨⟨j, by omega, ?_⟩, ?_⟩
          · rw [p_q, b1, if_pos ⟨hne, Or.inr g⟩]
          · rw [p_q, p_qm, q, b1, if_pos ⟨c, g⟩, if_pos ⟨c, g⟩, if_pos ⟨hne, Or.inr g⟩, if_pos ⟨hne, Or.inr g⟩]
        · refine Or.inr ⟨⟨i, by omega, ?_⟩, ?_⟩
          · rw [p_q, b1, if_neg (fun z => z.2.elim q3 g)]; exact e
          · rw [p_q, p_qm, q, b1, if_neg (fun z => g z.2), if_neg (fun z => g z.2), if_neg (fun z => z.2.elim q3 g), if_neg (fun z => z.2.elim q3 g)]
theorem qm_90 {w : Row} {n k : Int32} (hw : WF w) (h : p_okTicks n k) : p_qm w n k 90 = p_q w n k 0 90 ∧ ¬ (p_q w n k 0 90).1 < 0 := by
  rcases qm_q hw h 90 (by decide) with ⟨q, -⟩ | ⟨⟨i, hi, e⟩, q⟩
  · exfalso
    have e1 : ∀ j, j < 90 → ¬ (p_q w n k 0 (j + 1)).1 = -1 := by
      intro j
      induction j with
      | zero =>
        intro _
        have e : ¬ p_by w (nI (10 + 0)) n k = -1 := by_10 h
        have e2 : (p_q w n k 0 0).1 = -1 := rfl
        rw [p_q, if_pos ⟨e, Or.inl e2⟩]
        show ¬ nI (10 + 0) = -1
        decide
      | succ j ih =>
        intro hj
        rw [p_q]
        show ¬ (if _ then nI (10 + (j + 1)) else (p_q w n k 0 (j + 1)).1) = -1
        split
        · exact nI_ne1 (n := 10 + (j + 1)) (by omega)
        · exact ih (by omega)
    exact e1 89 (by decide) q
  · exact ⟨q, by rw [e]; exact nI_pos (by omega)⟩
theorem bst_neg (f : Nat → Int32) : ∀ n, n < 2147483648 → (p_bst f (-1) n).1 = -1 ∨ ∃ j, j < n ∧ (p_bst f (-1) n).1 = nI j
  | 0, _ => Or.inl rfl
  | n + 1, h => by
    show (if (p_bst f (-1) n).2 < f n then nI n else (p_bst f (-1) n).1) = -1 ∨ _
    by_cases c : (p_bst f (-1) n).2 < f n
    · exact Or.inr ⟨n, by omega, if_pos c⟩
    · rcases bst_neg f n (by omega) with q | ⟨j, hj, q⟩
      · exact Or.inl ((if_neg c).trans q)
      · exact Or.inr ⟨j, by omega, (if_neg c).trans q⟩
theorem best_neg (w : Row) (n : Int32) : p_best w n < 0 ↔ p_best w n = -1 := by
  rcases bst_neg (fun k => p_chances w (nI k) (ix n)) (ix (w 1)) (ix_lt _) with q | ⟨j, hj, q⟩
  · have q : p_best w n = -1 := q
    rw [q]; decide
  · have q : p_best w n = nI j := q
    have hj2 : j < 2147483648 := Nat.lt_trans hj (ix_lt _)
    rw [q]
    constructor
    · intro z; exact absurd z (nI_pos hj2)
    · intro z; exact absurd z (nI_ne1 hj2)
theorem rh_in (w : Row) : upd w 7 0 = upd (upd (upd w 5 (w 5)) 6 (w 6)) 7 0 := by rw [← upd_id w 5, ← upd_id w 6]
theorem rh_go (w : Row) (x y a b : Int32) : upd (upd (upd (upd (upd w 5 x) 6 y) 7 0) 5 a) 6 b = upd (upd (upd w 5 a) 6 b) 7 0 := by
  funext j
  simp only [upd]
  grind
theorem rh_out (w : Row) (x y : Int32) : upd (upd (upd (upd (upd (upd w 5 x) 6 y) 7 0) 5 (w 5)) 6 (w 6)) 7 (w 7) = w := by
  funext j
  simp only [upd]
  grind
