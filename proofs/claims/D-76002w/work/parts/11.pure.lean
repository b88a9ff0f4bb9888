theorem b2i_t {q : Prop} [Decidable q] (h : q) : b2i q = 1 := if_pos h
theorem b2i_f {q : Prop} [Decidable q] (h : ¬ q) : b2i q = 0 := if_neg h
theorem b2i_0 {q : Prop} [Decidable q] : b2i q = 0 ↔ ¬ q := by
  by_cases h : q
  · simp [b2i, h]
  · simp [b2i, h]
theorem b2i_c {q r : Prop} [Decidable q] [Decidable r] (h : q ↔ r) : b2i q = b2i r := by
  by_cases hq : q
  · rw [b2i_t hq, b2i_t (h.mp hq)]
  · rw [b2i_f hq, b2i_f (fun z => hq (h.mpr z))]
theorem nar_b2i {q : Prop} [Decidable q] : narrow .boolean (.int (b2i q)) = .int (b2i q) := by
  by_cases h : q
  · rw [b2i_t h]; rfl
  · rw [b2i_f h]; rfl
theorem fit_b2i {q : Prop} [Decidable q] : fits .boolean (.int (b2i q)) = true := by
  by_cases h : q
  · rw [b2i_t h]; rfl
  · rw [b2i_f h]; rfl
def ix (x : Int32) : Nat := x.toNatClampNeg
def rm (x y : Int32) : Int32 := x - x / y * y
def ab (x : Int32) : Int32 := if 0 ≤ x then x else 0 - x
def mx (x y : Int32) : Int32 := if x < y then y else x
def mn (x y : Int32) : Int32 := if y < x then y else x
def ush (x y : Int32) : Int32 := (x.toUInt32 >>> (y.toUInt32 &&& Int32.toUInt32 31)).toInt32
def sgn (x : Int32) : Int32 := if x < 0 then -1 else if 0 < x then 1 else 0
theorem vin_b {i : Int32} {n : Nat} (h : (decide (0 ≤ i.toInt) && decide (i.toInt < n)) = true) : vp_in i n := by
  rw [vp_in_iff]
  simpa using h
theorem vin_w {i : Int32} {n k : Nat} (h : vp_in i n) (hk : n ≤ k) : vp_in i k := by
  rw [vp_in_iff] at h ⊢
  omega
theorem vin_lt {i : Int32} {n : Nat} (h : vp_in i n) : ix i < n := Nat.not_le.mp fun q => h (Or.inr q)
theorem vin_nn {i : Int32} {n : Nat} (h : vp_in i n) : ¬ i < 0 := fun q => h (Or.inl q)
theorem ix_int {i : Int32} (h : ¬ i < 0) : i.toInt = (ix i : Int) := by
  have h0 : (0 : Int) ≤ i.toInt := by
    have := Int32.not_lt.mp h
    simpa using Int32.le_iff_toInt_le.mp this
  show i.toInt = ((i.toInt.toNat : Nat) : Int)
  omega
theorem nI_ix {i : Int32} (h : ¬ i < 0) : nI (ix i) = i := by
  obtain ⟨j, hj, rfl⟩ := nI_of h
  show nI (nI j).toNatClampNeg = nI j
  rw [nI_clamp hj]
abbrev p_in (v lo hi : Int32) : Prop := ¬ v < lo ∧ ¬ hi < v
theorem vin_of {v : Int32} {hi : Int32} (h : p_in v 0 hi) (n : Nat) (hn : hi.toInt < n) : vp_in v n := by
  rw [vp_in_iff]
  have h1 := Int32.not_lt.mp h.1
  have h2 := Int32.not_lt.mp h.2
  rw [Int32.le_iff_toInt_le] at h1 h2
  have : (0 : Int32).toInt = 0 := rfl
  omega
def p_apart (a b : Int32) : Int32 := ab (a / 6 - b / 6) + ab (rm a 6 - rm b 6)
def p_nb (c h : Int32) : Int32 := if h = 0 then (if c < 6 then -1 else c - 6) else if h = 1 then (if rm c 6 = 5 then -1 else c + 1) else if h = 2 then (if c < 30 then c + 6 else -1) else (if rm c 6 = 0 then -1 else c - 1)
abbrev Row : Type := Nat → Int32
abbrev p_run (w : Row) : Prop := w 7 < w 5
def p_loud (w : Row) : Int32 := mx 0 ((if w 7 < w 5 then 30 else 2) - w (20 + ix (w 3)))
def p_loudAt (w : Row) (c : Int32) : Int32 := p_loud w - 3 * p_apart c (w 3)
def p_side (w : Row) : Int32 := sgn (rm (w 3) 6 - rm (w 8) 6)
def p_high (w : Row) : Int32 := sgn (w 3 / 6 - w 8 / 6)
abbrev p_ahead (w : Row) : Prop := if w 9 = 0 then p_high w < 0 else if w 9 = 1 then 0 < p_side w else if w 9 = 2 then 0 < p_high w else p_side w < 0
abbrev p_hears (w : Row) : Prop := w (56 + ix (w 8)) < p_loudAt w (w 8) + (if p_ahead w then 5 else 0)
def p_tick (w : Row) : Row := upd (upd (if w 7 < w 5 then upd (upd w 4 (if p_nb (w 3) (w 4) = -1 then rm (w 4 + 1) 4 else w 4)) 3 (if p_nb (w 3) (w 4) = -1 then w 3 else p_nb (w 3) (w 4)) else w) 7 (rm (w 7 + 1) (w 5 + w 6))) 0 (w 0 + 1)
def p_ticks : Nat → Row → Row
  | 0, w => w
  | n + 1, w => p_tick (p_ticks n w)
def p_sum (f : Nat → Int32) : Nat → Int32
  | 0 => 0
  | n + 1 => p_sum f n + f n
def p_z (z : Int32) : Int32 := z * 1103515245 + 12345
def WF (w : Row) : Prop := vp_in (w 3) 36 ∧ (vp_in (w 5) 10 ∧ ¬ w 5 = 0) ∧ vp_in (w 6) 10 ∧ vp_in (w 8) 36 ∧ vp_in (w 1) 9 ∧ (∀ k, k < 10 → w (10 + k) = -1 ∨ vp_in (w (10 + k)) (ix (w 1))) ∧ (∀ k, k < 8 → vp_in (w (92 + 4 * k)) 7) ∧ (∀ k, k < 36 → ¬ w (20 + k) < 0) ∧ ∀ k, k < 36 → ¬ w (56 + k) < 0
theorem WF.mouse {w : Row} (h : WF w) : vp_in (w 3) 36 := h.1
theorem WF.run {w : Row} (h : WF w) : vp_in (w 5) 10 := h.2.1.1
theorem WF.run0 {w : Row} (h : WF w) : ¬ w 5 = 0 := h.2.1.2
theorem WF.pause {w : Row} (h : WF w) : vp_in (w 6) 10 := h.2.2.1
theorem WF.owl {w : Row} (h : WF w) : vp_in (w 8) 36 := h.2.2.2.1
theorem WF.many {w : Row} (h : WF w) : vp_in (w 1) 9 := h.2.2.2.2.1
theorem WF.holds {w : Row} (h : WF w) : ∀ k, k < 10 → w (10 + k) = -1 ∨ vp_in (w (10 + k)) (ix (w 1)) := h.2.2.2.2.2.1
theorem WF.kind {w : Row} (h : WF w) : ∀ k, k < 8 → vp_in (w (92 + 4 * k)) 7 := h.2.2.2.2.2.2.1
theorem WF.snow {w : Row} (h : WF w) : ∀ k, k < 36 → ¬ w (20 + k) < 0 := h.2.2.2.2.2.2.2.1
theorem WF.noise {w : Row} (h : WF w) : ∀ k, k < 36 → ¬ w (56 + k) < 0 := h.2.2.2.2.2.2.2.2
theorem run_pause {x y : Int32} (hx : vp_in x 10) (h0 : ¬ x = 0) (hy : vp_in y 10) : ¬ x + y = 0 := by
  obtain ⟨a, ha, rfl⟩ := vp_in_of hx (by decide)
  obtain ⟨b, hb, rfl⟩ := vp_in_of hy (by decide)
  rw [nI_add, ← nI_0, nI_eq (by omega) (by omega)]
  intro h
  have : a = 0 := by omega
  subst this
  exact h0 nI_0
theorem WF.rp {w : Row} (h : WF w) : ¬ w 5 + w 6 = 0 := run_pause h.run h.run0 h.pause
theorem upd_s {f : Nat → Int32} {k : Nat} {x : Int32} : upd f k x k = x := pk_us
theorem upd_n {f : Nat → Int32} {k j : Nat} {x : Int32} (h : j ≠ k) : upd f k x j = f j := pk_un h
theorem nb_in : ∀ c, c < 36 → ∀ h, h < 4 → p_nb (nI c) (nI h) = -1 ∨ vp_in (p_nb (nI c) (nI h)) 36 := by
  intro c hc h hh
  have key : ∀ c, c < 36 → ∀ h, h < 4 → (decide (p_nb (nI c) (nI h) = -1) || (decide (0 ≤ (p_nb (nI c) (nI h)).toInt) && decide ((p_nb (nI c) (nI h)).toInt < 36))) = true := by decide +kernel
  have k1 := key c hc h hh
  simp only [Bool.or_eq_true, decide_eq_true_eq] at k1
  rcases k1 with k1 | k1
  · exact Or.inl k1
  · exact Or.inr (vin_b k1)
theorem nb_ok {c h : Int32} (hc : vp_in c 36) : p_nb c h = -1 ∨ vp_in (p_nb c h) 36 := by
  obtain ⟨a, ha, rfl⟩ := vp_in_of hc (by decide)
  by_cases h0 : h = 0
  · subst h0; exact nb_in a ha 0 (by decide)
  by_cases h1 : h = 1
  · subst h1; exact nb_in a ha 1 (by decide)
  by_cases h2 : h = 2
  · subst h2; exact nb_in a ha 2 (by decide)
  · have e : p_nb (nI a) h = p_nb (nI a) (nI 3) := by
      have e3 : ¬ (nI 3) = 0 ∧ ¬ (nI 3) = 1 ∧ ¬ (nI 3) = 2 := by decide
      simp only [p_nb, if_neg h0, if_neg h1, if_neg h2, if_neg e3.1, if_neg e3.2.1, if_neg e3.2.2]
    rw [e]
    exact nb_in a ha 3 (by decide)
theorem WF_of {w w' : Row} (h : WF w) (h3 : vp_in (w' 3) 36) (h5 : w' 5 = w 5) (h6 : w' 6 = w 6) (h8 : w' 8 = w 8) (h1 : w' 1 = w 1) (hr : ∀ k, 10 ≤ k → w' k = w k) : WF w' := by
  obtain ⟨-, ⟨a5, b5⟩, a6, a8, a1, ah, ak, as, an⟩ := h
  refine ⟨h3, ⟨by rw [h5]; exact a5, by rw [h5]; exact b5⟩, by rw [h6]; exact a6, by rw [h8]; exact a8, by rw [h1]; exact a1, fun k hk => ?_, fun k hk => ?_, fun k hk => ?_, fun k hk => ?_⟩
  · rw [hr _ (by omega), h1]; exact ah k hk
  · rw [hr _ (by omega)]; exact ak k hk
  · rw [hr _ (by omega)]; exact as k hk
  · rw [hr _ (by omega)]; exact an k hk
theorem WF.tick {w : Row} (h : WF w) : WF (p_tick w) := by
  refine WF_of h ?_ ?_ ?_ ?_ ?_ ?_
  · unfold p_tick
    rw [upd_n (by decide), upd_n (by decide)]
    split
    · rw [upd_s]
      split
      · exact h.mouse
      · rename_i hn
        rcases nb_ok (h := w 4) h.mouse with q | q
        · exact absurd q hn
        · exact q
    · exact h.mouse
  · unfold p_tick
    rw [upd_n (by decide), upd_n (by decide)]
    split
    · rw [upd_n (by decide), upd_n (by decide)]
    · rfl
  · unfold p_tick
    rw [upd_n (by decide), upd_n (by decide)]
    split
    · rw [upd_n (by decide), upd_n (by decide)]
    · rfl
  · unfold p_tick
    rw [upd_n (by decide), upd_n (by decide)]
    split
    · rw [upd_n (by decide), upd_n (by decide)]
    · rfl
  · unfold p_tick
    rw [upd_n (by decide), upd_n (by decide)]
    split
    · rw [upd_n (by decide), upd_n (by decide)]
    · rfl
  · intro k hk
    unfold p_tick
    rw [upd_n (by omega), upd_n (by omega)]
    split
    · rw [upd_n (by omega), upd_n (by omega)]
    · rfl
theorem WF.ticks {w : Row} (h : WF w) : ∀ n, WF (p_ticks n w)
  | 0 => h
  | n + 1 => (WF.ticks h n).tick
theorem lt_ix {i : Nat} {n : Int32} (h : i < ix n) : nI i < n := by
  have hn : ¬ n < 0 := fun q => by
    have : ix n = 0 := by
      show n.toInt.toNat = 0
      rw [Int32.lt_iff_toInt_lt] at q
      have : (0 : Int32).toInt = 0 := rfl
      omega
    omega
  obtain ⟨j, hj, rfl⟩ := nI_of hn
  have e : ix (nI j) = j := nI_clamp hj
  rw [e] at h
  exact nI_lt h hj
theorem nlt_ix {n : Int32} : ¬ nI (ix n) < n := by
  by_cases hn : n < 0
  · have e0 : ix n = 0 := by
      show n.toInt.toNat = 0
      rw [Int32.lt_iff_toInt_lt] at hn
      have : (0 : Int32).toInt = 0 := rfl
      omega
    rw [e0]
    intro q
    rw [Int32.lt_iff_toInt_lt] at hn q
    have h1 : (nI 0).toInt = 0 := rfl
    have h2 : (0 : Int32).toInt = 0 := rfl
    omega
  · rw [nI_ix hn]
    rw [Int32.lt_iff_toInt_lt]
    omega
theorem sgn_bits (x : Int32) : x >>> ((31 : Int32) &&& 31) ||| ush (-x) 31 = sgn x := by
  have z0 : (0 : Int32).toInt = 0 := rfl
  have hsh : (x >>> ((31 : Int32) &&& 31)).toInt = x.toInt / 2 ^ 31 := by
    rw [pk_shr x _ 31 (by decide), Int.shiftRight_eq_div_pow]
    rfl
  have hlo : -2147483648 ≤ x.toInt := Int32.le_toInt x
  have hhi : x.toInt < 2147483648 := Int32.toInt_lt x
  unfold sgn
  by_cases h : x < 0
  · rw [if_pos h]
    rw [Int32.lt_iff_toInt_lt] at h
    have e1 : x >>> ((31 : Int32) &&& 31) = -1 := by
      apply Int32.toInt_inj.mp
      rw [hsh]
      show x.toInt / 2 ^ 31 = -1
      omega
    rw [e1]
    apply Int32.toBitVec_inj.mp
    rw [Int32.toBitVec_or]
    have : (-1 : Int32).toBitVec = BitVec.allOnes 32 := by decide
    rw [this, BitVec.allOnes_or]
  · rw [if_neg h]
    rw [Int32.lt_iff_toInt_lt] at h
    have e1 : x >>> ((31 : Int32) &&& 31) = 0 := by
      apply Int32.toInt_inj.mp
      rw [hsh]
      show x.toInt / 2 ^ 31 = 0
      omega
    rw [e1]
    have e0 : ∀ y : Int32, (0 : Int32) ||| y = y := fun y => by
      apply Int32.toBitVec_inj.mp
      rw [Int32.toBitVec_or]
      show 0#32 ||| y.toBitVec = y.toBitVec
      simp
    rw [e0]
    by_cases hp : 0 < x
    · rw [if_pos hp]
      rw [Int32.lt_iff_toInt_lt] at hp
      apply Int32.toBitVec_inj.mp
      apply BitVec.eq_of_toNat_eq
      show (ush (-x) 31).toBitVec.toNat = 1
      unfold ush
      rw [pk_ushr (-x) 31 31 (by decide)]
      have h1 : (-x).toBitVec.toNat = 2 ^ 32 - x.toBitVec.toNat := by
        rw [Int32.toBitVec_neg, BitVec.toNat_neg]
        have hx0 : x.toInt = x.toBitVec.toInt := rfl
        rw [hx0, BitVec.toInt_eq_toNat_cond] at hp
        split at hp
        · have : 0 < x.toBitVec.toNat := by omega
          omega
        · have := x.toBitVec.isLt
          omega
      have hx0 : x.toInt = x.toBitVec.toInt := rfl
      rw [hx0, BitVec.toInt_eq_toNat_cond] at hp
      rw [h1]
      have := x.toBitVec.isLt
      split at hp
      · omega
      · omega
    · rw [if_neg hp]
      have hx : x = 0 := by
        apply Int32.toInt_inj.mp
        rw [Int32.lt_iff_toInt_lt] at hp
        omega
      subst hx
      decide
theorem ix_lt (n : Int32) : ix n < 2147483648 := by
  show n.toInt.toNat < 2147483648
  have := Int32.toInt_lt n
  omega
