abbrev Gc : Type := va_G × (Nat → Nat → Nat) × (Nat → Nat) × (Nat → Nat) × (Nat → ClassId) × (Nat → Nat) × (Nat → Nat)
abbrev Gc.D (G : Gc) : va_G := G.1
abbrev Gc.ad (G : Gc) : Nat → Nat → Nat := G.2.1
abbrev Gc.adK (G : Gc) : Nat → Nat := G.2.2.1
abbrev Gc.adV (G : Gc) : Nat → Nat := G.2.2.2.1
abbrev Gc.ca (G : Gc) : Nat → ClassId := G.2.2.2.2.1
abbrev Gc.sw (G : Gc) : Nat → Nat := G.2.2.2.2.2.1
abbrev Gc.sn (G : Gc) : Nat → Nat := G.2.2.2.2.2.2
abbrev clC : List vw_C := [(RX4, TX4, 9), (RX0, TX0, 13), (RX1, TX1, 7), (RX2, TX2, 8), (RX3, TX3, 6), (RX5, TX5, 1), (RX6, TX6, 2), (RX7, TX7, 3), (RX8, TX8, 3), (RX9, TX9, 4), (RX10, TX10, 5), (RX11, TX11, 3), (RX12, TX12, 4)]
abbrev ctys (ca : Nat → ClassId) : List (ClassId × FieldType) := [(ca 0, .int), (ca 1, .array .int), (ca 2, .byte), (ca 3, .object "OwlEars$Slot"), (ca 4, .short)]
def chas (sw : Nat → Nat) (g i : Nat) : Bool := match g with
  | 5 => decide (i < 9)
  | 8 => decide (i < 10)
  | 9 => decide (i < 4)
  | 10 => decide (i < 4) && !(sw i == 0)
  | 20 => decide (i < 8) | 21 => decide (i < 8) | 22 => decide (i < 8) | 23 => decide (i < 8) | 24 => decide (i < 8) | 25 => decide (i < 8) | 26 => decide (i < 8)
  | 30 => decide (i < 8) | 31 => decide (i < 8) | 32 => decide (i < 8) | 33 => decide (i < 8) | 34 => decide (i < 8) | 35 => decide (i < 8) | 36 => decide (i < 8)
  | g => decide (g < 5) && decide (i < 11)
def cids (sw : Nat → Nat) : List (Nat × Nat) := (List.range 37).flatMap (fun g => ((List.range 11).filter (fun i => chas sw g i)).map (fun i => (g, i)))
abbrev cF (G : Gc) : Fam := (G.D, clC, ctys G.ca, cids G.sw, G.ad, G.adK, G.adV)
theorem chas_lt {sw : Nat → Nat} {g i : Nat} (h : chas sw g i = true) : g < 37 ∧ i < 11 := by
  unfold chas at h
  split at h <;> simp only [Bool.and_eq_true, decide_eq_true_eq] at h <;> omega
theorem cin {G : Gc} {g i : Nat} (h : chas G.sw g i = true) : (g, i) ∈ (cF G).ids := by
  have hl := chas_lt h
  show (g, i) ∈ cids G.sw
  simp only [cids, List.mem_flatMap, List.mem_map, List.mem_filter, List.mem_range]
  exact ⟨g, hl.1, i, ⟨hl.2, h⟩, rfl⟩
theorem cin_inv {G : Gc} {x : Nat × Nat} (h : x ∈ (cF G).ids) : chas G.sw x.1 x.2 = true := by
  have h : x ∈ cids G.sw := h
  simp only [cids, List.mem_flatMap, List.mem_map, List.mem_filter, List.mem_range] at h
  obtain ⟨g, -, i, ⟨-, hi⟩, rfl⟩ := h
  exact hi
abbrev pg (d kp as un to sc fd tp sh : Row) : Nat → Row := fun j => match j with
  | 0 => d
  | 1 => kp
  | 2 => as
  | 3 => un
  | 4 => to
  | 5 => sc
  | 6 => fd
  | 7 => tp
  | _ => sh
def wct (G : Gc) (w : Row) (g i : Nat) : va_E := match i with
  | 0 => .inr (0, [.ref (G.ad g 1), .ref (G.ad g 2), .ref (G.ad g 3), .ref (G.ad g 4), .int (w 1), .ref (G.ad g 5), .int (w 0), .int (w 2), .ref (G.ad g 10)])
  | 1 => .inl (G.ca 0, 36, .inl (fun k => w (20 + k)))
  | 2 => .inl (G.ca 0, 36, .inl (fun k => w (56 + k)))
  | 3 => .inl (G.ca 0, 5, .inl (fun k => w (3 + k)))
  | 4 => .inl (G.ca 0, 2, .inl (fun k => w (8 + k)))
  | 5 => .inl (G.ca 1, 4, .inr (.inr (.inr (.inr (fun k => some (G.ad g (6 + k)))))))
  | 6 => .inl (G.ca 0, 8, .inl (fun k => w (92 + 4 * k)))
  | 7 => .inl (G.ca 0, 8, .inl (fun k => w (93 + 4 * k)))
  | 8 => .inl (G.ca 0, 8, .inl (fun k => w (94 + 4 * k)))
  | 9 => .inl (G.ca 0, 8, .inl (fun k => w (95 + 4 * k)))
  | _ => .inl (G.ca 0, 10, .inl (fun k => w (10 + k)))
def cct0 (G : Gc) (p5 p6 p7 p8 w : Row) (sp : Nat → Option Nat) (g i : Nat) : va_E := match g with
  | 5 => (match i with
    | 0 => .inr (1, [.ref (G.ad 5 1), .ref (G.ad 5 2), .int (p5 0), .ref (G.ad 0 0), .ref (G.ad 1 0), .ref (G.ad 2 0), .ref (G.ad 3 0), .int (p5 1), .ref (G.ad 5 5), .ref (G.ad 5 6), .ref (G.ad 5 7), .ref (G.ad 5 8), .int (p5 2)])
    | 1 => .inr (2, [.null, .null, .null, .null, .null, .int 0, .int (p5 3)])
    | 2 => .inr (3, [.ref (G.ad 5 3), .ref (G.ad 5 4), .ref (G.ad 4 0), .int (p5 4), .int (p5 5), .int (p5 6), .int (p5 7), .int (p5 8)])
    | 3 => .inr (4, [.null, .null, .null, .null, .null, .int 0])
    | 4 => .inl (G.ca 2, 120, .inl p7)
    | 5 => .inl (G.ca 3, 56, .inr (.inr (.inr (.inr (fun k => some (G.ad (30 + k / 8) (k % 8)))))))
    | 6 => .inl (G.ca 3, 10, .inr (.inr (.inr (.inr (fun k => some (G.ad 8 k))))))
    | 7 => .inl (G.ca 3, 4, .inr (.inr (.inr (.inr (fun k => some (G.ad 9 k))))))
    | _ => .inl (G.ca 0, 7, .inl p6))
  | 8 => .inr (5, [va_rf (sp i)])
  | 9 => .inr (5, [if G.sw i = 0 then .null else .ref (G.ad 10 i)])
  | 10 => .inl (if G.sw i = 8 then G.ca 2 else if G.sw i = 16 then G.ca 4 else G.ca 0, G.sn i, .inl (fun k => p8 (40 * i + k)))
  | 20 => .inr (6, [.int (nI i), .ref (G.ad 5 0)])
  | 21 => .inr (7, [.int (nI i), .ref (G.ad 5 0), .ref (G.ad 5 0)])
  | 22 => .inr (8, [.int (nI i), .ref (G.ad 5 0), .ref (G.ad 5 0)])
  | 23 => .inr (9, [.int (nI i), .ref (G.ad 5 0), .ref (G.ad 5 0), .ref (G.ad 5 0)])
  | 24 => .inr (10, [.int (nI i), .ref (G.ad 5 0), .ref (G.ad 5 0), .ref (G.ad 5 0), .ref (G.ad 5 0)])
  | 25 => .inr (11, [.int (nI i), .ref (G.ad 5 0), .ref (G.ad 5 0)])
  | 26 => .inr (12, [.int (nI i), .ref (G.ad 5 0), .ref (G.ad 5 0), .ref (G.ad 5 0)])
  | 30 => .inr (5, [.ref (G.ad 20 i)])
  | 31 => .inr (5, [.ref (G.ad 21 i)])
  | 32 => .inr (5, [.ref (G.ad 22 i)])
  | 33 => .inr (5, [.ref (G.ad 23 i)])
  | 34 => .inr (5, [.ref (G.ad 24 i)])
  | 35 => .inr (5, [.ref (G.ad 25 i)])
  | 36 => .inr (5, [.ref (G.ad 26 i)])
  | g => wct G w g i
def cct (G : Gc) (P : Nat → Row) (sp : Nat → Option Nat) (g i : Nat) : va_E := cct0 G (P 5) (P 6) (P 7) (P 8) (P g) sp g i
theorem cct_w {G : Gc} {P : Nat → Row} {sp : Nat → Option Nat} {g i : Nat} (hg : g < 5) : cct G P sp g i = wct G (P g) g i := by
  match g, hg with
  | 0, _ => rfl
  | 1, _ => rfl
  | 2, _ => rfl
  | 3, _ => rfl
  | 4, _ => rfl
theorem cu_w {G : Gc} {P P' : Nat → Row} {sp : Nat → Option Nat} {g i : Nat} {e : va_E} (hg : g < 5) (hP : ∀ j, j ≠ g → P' j = P j) (h1 : ∀ a H, va_at G.D clC (a, e) H → va_at G.D clC (a, wct G (P' g) g i) H) (h2 : ∀ i', i' < 11 → i' ≠ i → ∀ a H, va_at G.D clC (a, wct G (P g) g i') H → va_at G.D clC (a, wct G (P' g) g i') H) : ups (cF G) (cct G P sp) (cct G P' sp) g i e := by
  refine ⟨fun H h => ?_, fun x hx hne H h => ?_⟩
  · rw [cct_w hg]; exact h1 _ H h
  · have hc := cin_inv hx
    obtain ⟨a, b⟩ := x
    by_cases ha : a = g
    · subst ha
      have hb : b < 11 := (chas_lt hc).2
      rw [cct_w hg] at h ⊢
      exact h2 b hb (fun q => hne (by rw [q])) _ H h
    · have e : cct G P' sp a b = cct G P sp a b := by
        unfold cct
        rw [hP 5 (by omega), hP 6 (by omega), hP 7 (by omega), hP 8 (by omega), hP a ha]
      rw [e]
      exact h
theorem wu {G : Gc} {w : Row} {g i q : Nat} {v : Int32} (hq : (i = 0 ∧ q < 3) ∨ (i = 1 ∧ 20 ≤ q ∧ q < 56) ∨ (i = 2 ∧ 56 ≤ q ∧ q < 92) ∨ (i = 3 ∧ 3 ≤ q ∧ q < 8) ∨ (i = 4 ∧ 8 ≤ q ∧ q < 10) ∨ (i = 6 ∧ 92 ≤ q ∧ q % 4 = 0) ∨ (i = 7 ∧ 92 ≤ q ∧ q % 4 = 1) ∨ (i = 8 ∧ 92 ≤ q ∧ q % 4 = 2) ∨ (i = 9 ∧ 92 ≤ q ∧ q % 4 = 3) ∨ (i = 10 ∧ 10 ≤ q ∧ q < 20)) :
    ∀ i', i' < 11 → i' ≠ i → ∀ a H, va_at G.D clC (a, wct G w g i') H → va_at G.D clC (a, wct G (upd w q v) g i') H := by
  intro i' hi' hne a H h
  match i', hi', hne, h with
  | 0, _, hne, h => exact at_rfl (by show _ = wct G (upd w q v) g 0; simp only [wct]; rw [upd_n (show (1 : Nat) ≠ q by omega), upd_n (show (0 : Nat) ≠ q by omega), upd_n (show (2 : Nat) ≠ q by omega)]) H h
  | 1, _, hne, h => exact at_arr (fun k hk => (upd_n (by omega)).symm) H h
  | 2, _, hne, h => exact at_arr (fun k hk => (upd_n (by omega)).symm) H h
  | 3, _, hne, h => exact at_arr (fun k hk => (upd_n (by omega)).symm) H h
  | 4, _, hne, h => exact at_arr (fun k hk => (upd_n (by omega)).symm) H h
  | 5, _, hne, h => exact h
  | 6, _, hne, h => exact at_arr (fun k hk => (upd_n (by omega)).symm) H h
  | 7, _, hne, h => exact at_arr (fun k hk => (upd_n (by omega)).symm) H h
  | 8, _, hne, h => exact at_arr (fun k hk => (upd_n (by omega)).symm) H h
  | 9, _, hne, h => exact at_arr (fun k hk => (upd_n (by omega)).symm) H h
  | 10, _, hne, h => exact at_arr (fun k hk => (upd_n (by omega)).symm) H h
theorem wu_arr {G : Gc} {w : Row} {b c k n : Nat} {v : Int32} {cA : ClassId} (hc : 0 < c) : ∀ a H, va_at G.D clC (a, .inl (cA, n, .inl (upd (fun j => w (b + c * j)) k v))) H → va_at G.D clC (a, .inl (cA, n, .inl (fun j => upd w (b + c * k) v (b + c * j)))) H := by
  intro a H h
  refine at_arr (fun j _ => ?_) H h
  by_cases hj : j = k
  · subst hj
    rw [upd_s, upd_s]
  · rw [upd_n hj, upd_n]
    intro e
    exact hj (Nat.eq_of_mul_eq_mul_left hc (by omega))
theorem wu_arr1 {G : Gc} {w : Row} {b k n : Nat} {v : Int32} {cA : ClassId} : ∀ a H, va_at G.D clC (a, .inl (cA, n, .inl (upd (fun j => w (b + j)) k v))) H → va_at G.D clC (a, .inl (cA, n, .inl (fun j => upd w (b + k) v (b + j)))) H := by
  intro a H h
  refine at_arr (fun j _ => ?_) H h
  by_cases hj : j = k
  · subst hj
    rw [upd_s, upd_s]
  · rw [upd_n hj, upd_n (by omega)]
theorem pg0 {d kp as un to sc fd tp sh d' : Row} : ∀ j, j ≠ 0 → pg d' kp as un to sc fd tp sh j = pg d kp as un to sc fd tp sh j := by
  intro j hj
  match j, hj with
  | 1, _ => rfl
  | 2, _ => rfl
  | 3, _ => rfl
  | 4, _ => rfl
  | 5, _ => rfl
  | 6, _ => rfl
  | 7, _ => rfl
  | j + 8, _ => rfl
theorem pg4 {d kp as un to sc fd tp sh to' : Row} : ∀ j, j ≠ 4 → pg d kp as un to' sc fd tp sh j = pg d kp as un to sc fd tp sh j := by
  intro j hj
  match j, hj with
  | 0, _ => rfl
  | 1, _ => rfl
  | 2, _ => rfl
  | 3, _ => rfl
  | 5, _ => rfl
  | 6, _ => rfl
  | 7, _ => rfl
  | j + 8, _ => rfl
section CST
variable {G : Gc} {d kp as un to sc fd tp sh : Row} {sp : Nat → Option Nat} {k : Nat} {v : Int32}
theorem cs_mouse (hk : k < 5) : ups (cF G) (cct G (pg d kp as un to sc fd tp sh) sp) (cct G (pg (upd d (3 + k) v) kp as un to sc fd tp sh) sp) 0 3 (.inl (G.ca 0, 5, .inl (upd (fun j => d (3 + j)) k v))) :=
  cu_w (by decide) pg0 wu_arr1 (wu (by omega))
theorem cs_owl (hk : k < 2) : ups (cF G) (cct G (pg d kp as un to sc fd tp sh) sp) (cct G (pg (upd d (8 + k) v) kp as un to sc fd tp sh) sp) 0 4 (.inl (G.ca 0, 2, .inl (upd (fun j => d (8 + j)) k v))) :=
  cu_w (by decide) pg0 wu_arr1 (wu (by omega))
theorem cs_snow (hk : k < 36) : ups (cF G) (cct G (pg d kp as un to sc fd tp sh) sp) (cct G (pg (upd d (20 + k) v) kp as un to sc fd tp sh) sp) 0 1 (.inl (G.ca 0, 36, .inl (upd (fun j => d (20 + j)) k v))) :=
  cu_w (by decide) pg0 wu_arr1 (wu (by omega))
theorem cs_noise (hk : k < 36) : ups (cF G) (cct G (pg d kp as un to sc fd tp sh) sp) (cct G (pg (upd d (56 + k) v) kp as un to sc fd tp sh) sp) 0 2 (.inl (G.ca 0, 36, .inl (upd (fun j => d (56 + j)) k v))) :=
  cu_w (by decide) pg0 wu_arr1 (wu (by omega))
theorem cs_holds (hk : k < 10) : ups (cF G) (cct G (pg d kp as un to sc fd tp sh) sp) (cct G (pg (upd d (10 + k) v) kp as un to sc fd tp sh) sp) 0 10 (.inl (G.ca 0, 10, .inl (upd (fun j => d (10 + j)) k v))) :=
  cu_w (by decide) pg0 wu_arr1 (wu (by omega))
theorem cs_r0 : ups (cF G) (cct G (pg d kp as un to sc fd tp sh) sp) (cct G (pg (upd d (92 + 4 * k) v) kp as un to sc fd tp sh) sp) 0 6 (.inl (G.ca 0, 8, .inl (upd (fun j => d (92 + 4 * j)) k v))) :=
  cu_w (by decide) pg0 (wu_arr (by decide)) (wu (by omega))
theorem cs_r1 : ups (cF G) (cct G (pg d kp as un to sc fd tp sh) sp) (cct G (pg (upd d (93 + 4 * k) v) kp as un to sc fd tp sh) sp) 0 7 (.inl (G.ca 0, 8, .inl (upd (fun j => d (93 + 4 * j)) k v))) :=
  cu_w (by decide) pg0 (wu_arr (by decide)) (wu (by omega))
theorem cs_r2 : ups (cF G) (cct G (pg d kp as un to sc fd tp sh) sp) (cct G (pg (upd d (94 + 4 * k) v) kp as un to sc fd tp sh) sp) 0 8 (.inl (G.ca 0, 8, .inl (upd (fun j => d (94 + 4 * j)) k v))) :=
  cu_w (by decide) pg0 (wu_arr (by decide)) (wu (by omega))
theorem cs_r3 : ups (cF G) (cct G (pg d kp as un to sc fd tp sh) sp) (cct G (pg (upd d (95 + 4 * k) v) kp as un to sc fd tp sh) sp) 0 9 (.inl (G.ca 0, 8, .inl (upd (fun j => d (95 + 4 * j)) k v))) :=
  cu_w (by decide) pg0 (wu_arr (by decide)) (wu (by omega))
theorem cs_many : ups (cF G) (cct G (pg d kp as un to sc fd tp sh) sp) (cct G (pg (upd d 1 v) kp as un to sc fd tp sh) sp) 0 0 (.inr (0, [.ref (G.ad 0 1), .ref (G.ad 0 2), .ref (G.ad 0 3), .ref (G.ad 0 4), .int v, .ref (G.ad 0 5), .int (d 0), .int (d 2), .ref (G.ad 0 10)])) :=
  cu_w (by decide) pg0 (fun _ _ h => h) (wu (by omega))
theorem cs_tick : ups (cF G) (cct G (pg d kp as un to sc fd tp sh) sp) (cct G (pg (upd d 0 v) kp as un to sc fd tp sh) sp) 0 0 (.inr (0, [.ref (G.ad 0 1), .ref (G.ad 0 2), .ref (G.ad 0 3), .ref (G.ad 0 4), .int (d 1), .ref (G.ad 0 5), .int v, .int (d 2), .ref (G.ad 0 10)])) :=
  cu_w (by decide) pg0 (fun _ _ h => h) (wu (by omega))
theorem cs_z : ups (cF G) (cct G (pg d kp as un to sc fd tp sh) sp) (cct G (pg (upd d 2 v) kp as un to sc fd tp sh) sp) 0 0 (.inr (0, [.ref (G.ad 0 1), .ref (G.ad 0 2), .ref (G.ad 0 3), .ref (G.ad 0 4), .int (d 1), .ref (G.ad 0 5), .int (d 0), .int v, .ref (G.ad 0 10)])) :=
  cu_w (by decide) pg0 (fun _ _ h => h) (wu (by omega))
end CST
