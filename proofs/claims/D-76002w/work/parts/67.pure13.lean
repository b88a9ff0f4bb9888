def lush (x : Int64) (y : Int32) : Int64 := (x.toUInt64 >>> (y.toInt64.toUInt64 &&& Int64.toUInt64 63)).toInt64
theorem nI_mod32 (a : Nat) : nI a = nI (a % 2 ^ 32) := by
  apply Int32.toBitVec_inj.mp
  show BitVec.ofNat 32 a = BitVec.ofNat 32 (a % 2 ^ 32)
  apply BitVec.eq_of_toNat_eq
  rw [BitVec.toNat_ofNat, BitVec.toNat_ofNat, Nat.mod_mod]
theorem ntz_any {a v : Nat} (hv : v < 32) (hb : a.testBit v = true) (hl : ∀ j, j < v → a.testBit j = false) : (nI a ^^^ (-1)) &&& (nI a - 1) = nI (2 ^ v - 1) := by
  rw [nI_mod32 a]
  refine ntz_mask hv (Nat.mod_lt _ (by decide)) ?_ (fun j hj => ?_)
  · rw [Nat.testBit_mod_two_pow]; simp [hv, hb]
  · rw [Nat.testBit_mod_two_pow, hl j hj]; simp
theorem low_n0 {a v : Nat} (hv : v < 32) (hb : a.testBit v = true) : ¬ nI a = 0 := by
  intro h
  rw [nI_mod32 a] at h
  have h2 : a % 2 ^ 32 = 0 := by
    have h3 : (nI (a % 2 ^ 32)).toBitVec.toNat = 0 := by rw [h]; rfl
    have h4 : (nI (a % 2 ^ 32)).toBitVec.toNat = a % 2 ^ 32 % 2 ^ 32 := rfl
    rw [h4, Nat.mod_mod] at h3
    exact h3
  have h5 : (a % 2 ^ 32).testBit v = true := by rw [Nat.testBit_mod_two_pow]; simp [hv, hb]
  rw [h2] at h5
  simp at h5
theorem low_0 {a v : Nat} (hv : 32 ≤ v) (hl : ∀ j, j < v → a.testBit j = false) : nI a = 0 := by
  have h2 : a % 2 ^ 32 = 0 := by
    apply Nat.eq_of_testBit_eq
    intro j
    rw [Nat.testBit_mod_two_pow, Nat.zero_testBit]
    by_cases q : j < 32
    · rw [hl j (by omega)]; simp
    · simp [q]
  rw [nI_mod32, h2]
  rfl
theorem hi_bits {a v : Nat} (hv : 32 ≤ v) (hb : a.testBit v = true) (hl : ∀ j, j < v → a.testBit j = false) : (a / 2 ^ 32).testBit (v - 32) = true ∧ ∀ j, j < v - 32 → (a / 2 ^ 32).testBit j = false := by
  constructor
  · rw [Nat.testBit_div_two_pow]
    have : v - 32 + 32 = v := by omega
    rw [this]; exact hb
  · intro j hj
    rw [Nat.testBit_div_two_pow]
    exact hl _ (by omega)
theorem lush32 {a : Nat} (ha : a < 2 ^ 64) : lush (lN a) 32 = lN (a / 2 ^ 32) := wb_shr (k := 32) ha (by decide)
theorem set_lo {P : Nat → Prop} [DecidablePred P] {n v : Nat} (hv : v < n) (hP : P v) (hl : ∀ j, j < v → ¬ P j) : (p_set P n).testBit v = true ∧ ∀ j, j < v → (p_set P n).testBit j = false := by
  constructor
  · rw [p_set_bit]; simp [hv, hP]
  · intro j hj
    rw [p_set_bit]; simp [hl j hj]
theorem set_l0 {P : Nat → Prop} [DecidablePred P] {n : Nat} (hn : n ≤ 60) : lg_cmp (lN (p_set P n)) 0 = 0 ↔ p_set P n = 0 := by
  have hlt : p_set P n < 2 ^ 60 := Nat.lt_of_lt_of_le (p_set_lt P n) (Nat.pow_le_pow_right (by decide) hn)
  rw [lg_cmp_eq]
  constructor
  · intro h
    have h1 : (lN (p_set P n)).toBitVec.toNat = 0 := by rw [h]; rfl
    rw [wb_tn (by omega)] at h1
    exact h1
  · intro h; rw [h]; rfl
theorem cnt_two (f : Nat → Int32) (h : ∀ k, k < 36 → ¬ f k < 0) : ∀ n, n ≤ 36 → p_cnt (fun k => 0 < f k) n + p_cnt (fun k => f k = 0) n = n
  | 0, _ => rfl
  | n + 1, hn => by
    have ih := cnt_two f h n (by omega)
    have h0 := h n (by omega)
    show p_cnt (fun k => 0 < f k) n + (if 0 < f n then 1 else 0) + (p_cnt (fun k => f k = 0) n + (if f n = 0 then 1 else 0)) = n + 1
    by_cases c : f n = 0
    · rw [if_neg (by rw [c]; decide), if_pos c]; omega
    · have c2 : 0 < f n := by
        rw [Int32.lt_iff_toInt_lt] at h0 ⊢
        have z : (0 : Int32).toInt = 0 := rfl
        have : (f n).toInt ≠ 0 := fun q => c (Int32.toInt_inj.mp q)
        omega
      rw [if_pos c2, if_neg c]; omega
theorem above_36 {w : Row} (h : WF w) : 36 - p_sum (fun k => if 0 < w (56 + k) then 1 else 0) 36 = nI (p_above w) := by
  rw [p_sum_cnt (fun k => 0 < w (56 + k))]
  have e := cnt_two (fun k => w (56 + k)) h.noise 36 (Nat.le_refl _)
  have e2 : (36 : Int32) = nI (p_above w) + nI (p_cnt (fun k => 0 < w (56 + k)) 36) := by
    rw [nI_add]
    show nI 36 = _
    congr 1
    unfold p_above
    omega
  rw [e2]
  apply Int32.toBitVec_inj.mp
  rw [Int32.toBitVec_sub, Int32.toBitVec_add]
  exact BitVec.add_sub_cancel _ _
theorem nar_nar (x : Int32) : vp_nar .byte (x.toInt8.toInt32) = vp_nar .byte x := by
  rw [vp_nar_byte, vp_nar_byte]
  exact lg_i2b_small (lg_i2b_range x).1 (lg_i2b_range x).2
theorem st_sum {fd : Row} {x : Int32} (h : p_in x (-1) 6) : p_sum (fun k => if x = -1 ∨ x = nI k then fd k else 0) 7 = if x = -1 then p_sum fd 7 else fd (ix x) := by
  by_cases e : x = -1
  · rw [if_pos e]
    exact p_sum_congr 7 (fun k _ => if_pos (Or.inl e))
  · rw [if_neg e]
    have h1 := Int32.not_lt.mp h.1
    have h2 := Int32.not_lt.mp h.2
    rw [Int32.le_iff_toInt_le] at h1 h2
    have z1 : (-1 : Int32).toInt = -1 := rfl
    have z6 : (6 : Int32).toInt = 6 := rfl
    have h0 : ¬ x < 0 := by
      rw [Int32.lt_iff_toInt_lt]
      have z : (0 : Int32).toInt = 0 := rfl
      have : x.toInt ≠ -1 := fun q => e (Int32.toInt_inj.mp q)
      omega
    obtain ⟨j, hj, rfl⟩ := nI_of h0
    rw [nI_toInt hj] at h2
    rw [ix_nI hj]
    have key : ∀ n, n ≤ 7 → p_sum (fun k => if nI j = -1 ∨ nI j = nI k then fd k else 0) n = if j < n then fd j else 0 := by
      intro n
      induction n with
      | zero => intro _; rfl
      | succ n ih =>
        intro hn
        show p_sum _ n + (if nI j = -1 ∨ nI j = nI n then fd n else 0) = _
        rw [ih (by omega)]
        by_cases c : j = n
        · subst c
          rw [if_neg (by omega), if_pos (Or.inr rfl), if_pos (by omega)]
          exact Int32.zero_add _
        · have c2 : ¬ (nI j = -1 ∨ nI j = nI n) := fun z => z.elim e (fun q => c ((nI_eq hj (by omega)).mp q))
          rw [if_neg c2]
          by_cases q : j < n
          · rw [if_pos q, if_pos (by omega)]; exact Int32.add_zero _
          · rw [if_neg q, if_neg (by omega)]; rfl
    rw [key 7 (Nat.le_refl _), if_pos (by omega)]
theorem set_256 {w : Row} (h : WF w) (P : Nat → Prop) [DecidablePred P] : p_set P (ix (w 1)) < 256 :=
  Nat.lt_of_lt_of_le (p_set_lt P _) (show 2 ^ ix (w 1) ≤ 2 ^ 8 from Nat.pow_le_pow_right (by decide) (by have := vin_lt h.many; omega))
theorem least_0 {P : Nat → Prop} [DecidablePred P] {n : Nat} (h : p_set P n = 0) : p_fst P n 0 = -1 := by
  rcases p_fst_spec P n 0 with q | ⟨v, _, hv, hP, _⟩
  · exact q.1
  · exact absurd hP ((p_set_0 P n).mp h v (by omega))
theorem least_1 {P : Nat → Prop} [DecidablePred P] {n : Nat} (h : ¬ p_set P n = 0) : ∃ v, v < n ∧ P v ∧ (∀ j, j < v → ¬ P j) ∧ p_fst P n 0 = nI v := by
  rcases p_fst_spec P n 0 with q | ⟨v, _, hv, hP, hl, he⟩
  · exact absurd ((p_set_0 P n).mpr (fun j hj => q.2 j (Nat.zero_le _) (by omega))) h
  · exact ⟨v, by omega, hP, fun j hj => hl j (Nat.zero_le _) hj, he⟩
theorem nI_nm1 {v : Nat} (h : v < 60) : ¬ nI v = -1 := by
  have key : ∀ v, v < 60 → ¬ nI v = -1 := by decide +kernel
  exact key v h
theorem nI_32 {v : Nat} (h : ¬ v < 32) : nI v = 32 + nI (v - 32) := by
  show nI v = nI 32 + nI (v - 32)
  rw [nI_add]
  congr 1
  omega
def c_feed (fd tp sc : Row) (b n : Int32) : Int32 × Row × Row × Row := ((s_feed fd tp (sc 0) b n).1, upd sc 0 (s_feed fd tp (sc 0) b n).2.1, (s_feed fd tp (sc 0) b n).2.2.1, (s_feed fd tp (sc 0) b n).2.2.2)
theorem c_feed_0 {fd tp sc : Row} {b n x : Int32} {f : Row} (h : s_feed fd tp (sc 0) b n = (x, sc 0, tp, f)) : c_feed fd tp sc b n = (x, sc, tp, f) := by
  rw [c_feed, h]
  show (x, upd sc 0 (sc 0), tp, f) = _
  rw [← upd_id sc 0]
theorem c_feed_1 {fd tp sc : Row} {b n x t : Int32} {g f : Row} (h : s_feed fd tp (sc 0) b n = (x, t, g, f)) : c_feed fd tp sc b n = (x, upd sc 0 t, g, f) := by
  rw [c_feed, h]
