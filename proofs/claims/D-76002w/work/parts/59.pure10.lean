def s_rhythm2 (w fd : Row) (n k : Int32) : Int32 × Row := if p_okTicks n k then ((p_q w n k 0 90).1, fd) else (-1000001, p_find fd 0)
def s_least2 (w fd : Row) (n k : Int32) : Int32 × Row := if p_okTicks n k then ((p_q w n k 0 90).2, fd) else (-1000001, p_find fd 0)
theorem ush8 (z : Int32) : ∃ a, a < 16777216 ∧ ush z 8 = nI a := by
  have h : (ush z 8).toBitVec.toNat = z.toBitVec.toNat / 2 ^ 8 := by
    unfold ush
    exact pk_ushr z 8 8 (by decide)
  have hl := z.toBitVec.isLt
  refine ⟨z.toBitVec.toNat / 2 ^ 8, by omega, ?_⟩
  apply Int32.toBitVec_inj.mp
  apply BitVec.eq_of_toNat_eq
  rw [h]
  show _ = (BitVec.ofNat 32 (z.toBitVec.toNat / 2 ^ 8)).toNat
  rw [BitVec.toNat_ofNat, Nat.mod_eq_of_lt (by omega)]
theorem draw_in (z : Int32) {n : Nat} (h0 : 0 < n) (hn : n < 1000) : vp_in (rm (ush z 8) (nI n)) n := by
  obtain ⟨a, ha, e⟩ := ush8 z
  rw [e, rm_nI (by omega) (by omega)]
  exact vp_in_nI (Nat.mod_lt _ h0) (by omega)
theorem WF.leaf {w : Row} (h : WF w) : WF (p_leaf w) := by
  obtain ⟨a3, ⟨a5, b5⟩, a6, a8, a1, ah, ak, as, an⟩ := h
  have hq : ix (rm (ush (p_z (w 2)) 8) 36) < 36 := vin_lt (draw_in (p_z (w 2)) (n := 36) (by decide) (by decide))
  unfold p_leaf
  refine ⟨by rw [upd_n (by omega), upd_n (by omega), upd_n (by omega)]; exact a3, ⟨by rw [upd_n (by omega), upd_n (by omega), upd_n (by omega)]; exact a5, by rw [upd_n (by omega), upd_n (by omega), upd_n (by omega)]; exact b5⟩, by rw [upd_n (by omega), upd_n (by omega), upd_n (by omega)]; exact a6, by rw [upd_n (by omega), upd_n (by omega), upd_n (by omega)]; exact a8, by rw [upd_n (by omega), upd_n (by omega), upd_n (by omega)]; exact a1, fun j hj => ?_, fun j hj => ?_, fun j hj => ?_, fun j hj => ?_⟩
  · rw [upd_n (by omega), upd_n (by omega), upd_n (by omega), upd_n (j := 1) (by omega), upd_n (j := 1) (by omega), upd_n (j := 1) (by omega)]; exact ah j hj
  · rw [upd_n (by omega), upd_n (by omega), upd_n (by omega)]; exact ak j hj
  · rw [upd_n (by omega), upd_n (by omega), upd_n (by omega)]; exact as j hj
  · by_cases e : j = ix (rm (ush (p_z (w 2)) 8) 36)
    · rw [e, upd_s]; exact vin_nn (draw_in (p_z (p_z (w 2))) (n := 50) (by decide) (by decide))
    · rw [upd_n (by omega), upd_n (by omega), upd_n (by omega)]; exact an j hj
theorem WF.lv {w : Row} (h : WF w) : ∀ n, WF (p_lv w n).2
  | 0 => h
  | n + 1 => (WF.lv h n).leaf.tick
theorem p_sum_cnt (P : Nat → Prop) [DecidablePred P] : ∀ n, p_sum (fun k => if P k then 1 else 0) n = nI (p_cnt P n)
  | 0 => rfl
  | n + 1 => by
    show p_sum _ n + (if P n then 1 else 0) = nI (p_cnt P n + (if P n then 1 else 0))
    rw [p_sum_cnt P n, ← nI_add]
    congr 1
    split <;> rfl
theorem cnt_le (P : Nat → Prop) [DecidablePred P] : ∀ n, p_cnt P n ≤ n
  | 0 => Nat.le_refl _
  | n + 1 => by
    show p_cnt P n + _ ≤ n + 1
    have := cnt_le P n
    split <;> omega
theorem above_le (w : Row) : p_above w ≤ 36 := cnt_le _ 36
theorem gcd36 (a : Nat) : 0 < Nat.gcd a 36 ∧ Nat.gcd a 36 ≤ 36 := ⟨Nat.gcd_pos_of_pos_right _ (by decide), Nat.le_of_dvd (by decide) (Nat.gcd_dvd_right _ _)⟩
theorem mf_at {fd : Row} {x : Int32} (h : p_in x (-1) 6) : vp_in (x + 1) 8 ∧ mf fd (ix (x + 1)) = if x = -1 then p_sum fd 7 else fd (ix x) := by
  have h1 := Int32.not_lt.mp h.1
  have h2 := Int32.not_lt.mp h.2
  rw [Int32.le_iff_toInt_le] at h1 h2
  have z1 : (-1 : Int32).toInt = -1 := rfl
  have z6 : (6 : Int32).toInt = 6 := rfl
  by_cases e : x = -1
  · subst e
    exact ⟨vin_b rfl, rfl⟩
  · have h0 : ¬ x < 0 := by
      rw [Int32.lt_iff_toInt_lt]
      have z : (0 : Int32).toInt = 0 := rfl
      have : x.toInt ≠ -1 := fun q => e (Int32.toInt_inj.mp q)
      omega
    obtain ⟨j, hj, rfl⟩ := nI_of h0
    rw [nI_toInt hj] at h1 h2
    rw [if_neg e, nI_1, ix_nI (by omega), ix_nI (by omega)]
    exact ⟨vp_in_nI (by omega) (by decide), rfl⟩
theorem kind7 {x : Int32} (h : vp_in x 7) : x = 0 ∨ x = 1 ∨ x = 2 ∨ x = 3 ∨ x = 4 ∨ x = 5 ∨ x = 6 := by
  obtain ⟨j, hj, rfl⟩ := vp_in_of h (by decide)
  have key : ∀ j, j < 7 → nI j = 0 ∨ nI j = 1 ∨ nI j = 2 ∨ nI j = 3 ∨ nI j = 4 ∨ nI j = 5 ∨ nI j = 6 := by decide +kernel
  exact key j hj
def p_z0 (nu : Row) (b n : Nat) : Row := fun k => if b ≤ k ∧ k < b + n then 0 else nu k
theorem p_z0_0 (nu : Row) (b : Nat) : nu = p_z0 nu b 0 := by
  funext k
  exact (if_neg (by omega)).symm
theorem p_z0_s (nu : Row) (b n : Nat) : upd (p_z0 nu b n) (b + n) 0 = p_z0 nu b (n + 1) := by
  funext k
  by_cases h : k = b + n
  · subst h; rw [upd_s]; exact (if_pos (by omega)).symm
  · rw [upd_n h]
    unfold p_z0
    by_cases q : b ≤ k ∧ k < b + n
    · rw [if_pos q, if_pos (by omega)]
    · rw [if_neg q, if_neg (by omega)]
def s_sheet (fd ws sz nu : Row) (s b n : Int32) : Int32 × Row × Row × Row × Row :=
  if p_in s 0 3 ∧ (b = 0 ∨ b = 8 ∨ b = 16 ∨ b = 32) then (if n < 0 then (-1000007, ws, sz, nu, p_find fd 6) else if 40 < n then (-1000001, ws, sz, nu, p_find fd 0) else ((if b = 0 then 0 else n), upd ws (ix s) b, upd sz (ix s) (if b = 0 then 0 else n), p_z0 nu (40 * ix s) 40, fd)) else (-1000001, ws, sz, nu, p_find fd 0)
theorem t5_1 {A B C D E : Type} {x : A × B × C × D × E} {a : A} {b : B} {c : C} {d : D} {e : E} (h : x = (a, b, c, d, e)) : x.1 = a := by rw [h]
theorem t5_2 {A B C D E : Type} {x : A × B × C × D × E} {a : A} {b : B} {c : C} {d : D} {e : E} (h : x = (a, b, c, d, e)) : x.2.1 = b := by rw [h]
theorem t5_3 {A B C D E : Type} {x : A × B × C × D × E} {a : A} {b : B} {c : C} {d : D} {e : E} (h : x = (a, b, c, d, e)) : x.2.2.1 = c := by rw [h]
theorem t5_4 {A B C D E : Type} {x : A × B × C × D × E} {a : A} {b : B} {c : C} {d : D} {e : E} (h : x = (a, b, c, d, e)) : x.2.2.2.1 = d := by rw [h]
theorem t5_5 {A B C D E : Type} {x : A × B × C × D × E} {a : A} {b : B} {c : C} {d : D} {e : E} (h : x = (a, b, c, d, e)) : x.2.2.2.2 = e := by rw [h]
def WS (ws sz : Row) : Prop := ∀ s, s < 4 → vp_in (sz s) 41 ∧ (ws s = 0 → sz s = 0)
theorem WS.sz {ws sz : Row} (h : WS ws sz) {s : Nat} (hs : s < 4) : ix (sz s) ≤ 40 := Nat.lt_succ_iff.mp (vin_lt (h s hs).1)
theorem in_lt {i n : Int32} {m : Nat} (hn : vp_in n m) (hm : m < 1000) (h : p_in i 0 (n - 1)) : vp_in i (ix n) := by
  obtain ⟨j, hj, e⟩ := vp_in_of hn (by omega)
  have e2 : ix n = j := by rw [e]; exact nI_clamp (by omega)
  rw [e2]
  have h1 := Int32.not_lt.mp h.1
  have h2 := Int32.not_lt.mp h.2
  rw [Int32.le_iff_toInt_le] at h1 h2
  rw [vp_in_iff]
  have z : (0 : Int32).toInt = 0 := rfl
  have q : (n - 1).toInt = (j : Int) - 1 := by
    rw [e]
    exact pk_sub_toInt (a := j) (b := 1) (by omega) (by decide)
  omega
