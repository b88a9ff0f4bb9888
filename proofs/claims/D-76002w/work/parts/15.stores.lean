section CST4
variable {G : Gc} {d kp as un to sc fd tp sh : Row} {sp : Nat → Option Nat} {k : Nat} {v : Int32}
theorem cs4_mouse (hk : k < 5) : ups (cF G) (cct G (pg d kp as un to sc fd tp sh) sp) (cct G (pg d kp as un (upd to (3 + k) v) sc fd tp sh) sp) 4 3 (.inl (G.ca 0, 5, .inl (upd (fun j => to (3 + j)) k v))) :=
  cu_w (by decide) pg4 wu_arr1 (wu (by omega))
theorem cs4_owl (hk : k < 2) : ups (cF G) (cct G (pg d kp as un to sc fd tp sh) sp) (cct G (pg d kp as un (upd to (8 + k) v) sc fd tp sh) sp) 4 4 (.inl (G.ca 0, 2, .inl (upd (fun j => to (8 + j)) k v))) :=
  cu_w (by decide) pg4 wu_arr1 (wu (by omega))
theorem cs4_snow (hk : k < 36) : ups (cF G) (cct G (pg d kp as un to sc fd tp sh) sp) (cct G (pg d kp as un (upd to (20 + k) v) sc fd tp sh) sp) 4 1 (.inl (G.ca 0, 36, .inl (upd (fun j => to (20 + j)) k v))) :=
  cu_w (by decide) pg4 wu_arr1 (wu (by omega))
theorem cs4_noise (hk : k < 36) : ups (cF G) (cct G (pg d kp as un to sc fd tp sh) sp) (cct G (pg d kp as un (upd to (56 + k) v) sc fd tp sh) sp) 4 2 (.inl (G.ca 0, 36, .inl (upd (fun j => to (56 + j)) k v))) :=
  cu_w (by decide) pg4 wu_arr1 (wu (by omega))
theorem cs4_holds (hk : k < 10) : ups (cF G) (cct G (pg d kp as un to sc fd tp sh) sp) (cct G (pg d kp as un (upd to (10 + k) v) sc fd tp sh) sp) 4 10 (.inl (G.ca 0, 10, .inl (upd (fun j => to (10 + j)) k v))) :=
  cu_w (by decide) pg4 wu_arr1 (wu (by omega))
theorem cs4_r0 : ups (cF G) (cct G (pg d kp as un to sc fd tp sh) sp) (cct G (pg d kp as un (upd to (92 + 4 * k) v) sc fd tp sh) sp) 4 6 (.inl (G.ca 0, 8, .inl (upd (fun j => to (92 + 4 * j)) k v))) :=
  cu_w (by decide) pg4 (wu_arr (by decide)) (wu (by omega))
theorem cs4_r1 : ups (cF G) (cct G (pg d kp as un to sc fd tp sh) sp) (cct G (pg d kp as un (upd to (93 + 4 * k) v) sc fd tp sh) sp) 4 7 (.inl (G.ca 0, 8, .inl (upd (fun j => to (93 + 4 * j)) k v))) :=
  cu_w (by decide) pg4 (wu_arr (by decide)) (wu (by omega))
theorem cs4_r2 : ups (cF G) (cct G (pg d kp as un to sc fd tp sh) sp) (cct G (pg d kp as un (upd to (94 + 4 * k) v) sc fd tp sh) sp) 4 8 (.inl (G.ca 0, 8, .inl (upd (fun j => to (94 + 4 * j)) k v))) :=
  cu_w (by decide) pg4 (wu_arr (by decide)) (wu (by omega))
theorem cs4_r3 : ups (cF G) (cct G (pg d kp as un to sc fd tp sh) sp) (cct G (pg d kp as un (upd to (95 + 4 * k) v) sc fd tp sh) sp) 4 9 (.inl (G.ca 0, 8, .inl (upd (fun j => to (95 + 4 * j)) k v))) :=
  cu_w (by decide) pg4 (wu_arr (by decide)) (wu (by omega))
theorem cs4_many : ups (cF G) (cct G (pg d kp as un to sc fd tp sh) sp) (cct G (pg d kp as un (upd to 1 v) sc fd tp sh) sp) 4 0 (.inr (0, [.ref (G.ad 4 1), .ref (G.ad 4 2), .ref (G.ad 4 3), .ref (G.ad 4 4), .int v, .ref (G.ad 4 5), .int (to 0), .int (to 2), .ref (G.ad 4 10)])) :=
  cu_w (by decide) pg4 (fun _ _ h => h) (wu (by omega))
theorem cs4_tick : ups (cF G) (cct G (pg d kp as un to sc fd tp sh) sp) (cct G (pg d kp as un (upd to 0 v) sc fd tp sh) sp) 4 0 (.inr (0, [.ref (G.ad 4 1), .ref (G.ad 4 2), .ref (G.ad 4 3), .ref (G.ad 4 4), .int (to 1), .ref (G.ad 4 5), .int v, .int (to 2), .ref (G.ad 4 10)])) :=
  cu_w (by decide) pg4 (fun _ _ h => h) (wu (by omega))
theorem cs4_z : ups (cF G) (cct G (pg d kp as un to sc fd tp sh) sp) (cct G (pg d kp as un (upd to 2 v) sc fd tp sh) sp) 4 0 (.inr (0, [.ref (G.ad 4 1), .ref (G.ad 4 2), .ref (G.ad 4 3), .ref (G.ad 4 4), .int (to 1), .ref (G.ad 4 5), .int (to 0), .int v, .ref (G.ad 4 10)])) :=
  cu_w (by decide) pg4 (fun _ _ h => h) (wu (by omega))

end CST4
theorem cu_5 {G : Gc} {P P' : Nat → Row} {sp : Nat → Option Nat} {i : Nat} {e : va_E} (hP : ∀ j, j < 5 ∨ j = 8 → P' j = P j) (h1 : ∀ a H, va_at G.D clC (a, e) H → va_at G.D clC (a, cct G P' sp 5 i) H) (h2 : ∀ i', i' < 9 → i' ≠ i → ∀ a H, va_at G.D clC (a, cct G P sp 5 i') H → va_at G.D clC (a, cct G P' sp 5 i') H) : ups (cF G) (cct G P sp) (cct G P' sp) 5 i e := by
  refine ⟨fun H h => h1 _ H h, fun x hx hne H h => ?_⟩
  have hc := cin_inv hx
  obtain ⟨a, b⟩ := x
  by_cases ha : a = 5
  · subst ha
    have hb : b < 9 := by simpa [chas] using hc
    exact h2 b hb (fun q => hne (by rw [q])) _ H h
  · by_cases hw : a < 5
    · rw [cct_w hw] at h ⊢
      rw [hP a (Or.inl hw)]
      exact h
    · have e : cct G P' sp a b = cct G P sp a b := by
        have hd : a = 8 ∨ a = 9 ∨ a = 10 ∨ a = 20 ∨ a = 21 ∨ a = 22 ∨ a = 23 ∨ a = 24 ∨ a = 25 ∨ a = 26 ∨ a = 30 ∨ a = 31 ∨ a = 32 ∨ a = 33 ∨ a = 34 ∨ a = 35 ∨ a = 36 := by
          unfold chas at hc
          split at hc
          all_goals first | omega | (simp only [Bool.and_eq_true, decide_eq_true_eq] at hc; omega)
        have h8 := hP 8 (Or.inr rfl)
        rcases hd with rfl | rfl | rfl | rfl | rfl | rfl | rfl | rfl | rfl | rfl | rfl | rfl | rfl | rfl | rfl | rfl | rfl
        all_goals first | rfl | (show cct0 G (P' 5) (P' 6) (P' 7) (P' 8) (P' 10) sp 10 b = cct0 G (P 5) (P 6) (P 7) (P 8) (P 10) sp 10 b; rw [h8]; rfl)
      rw [e]
      exact h
section CS5
variable {G : Gc} {d kp as un to sc fd tp sh : Row} {sp : Nat → Option Nat} {k : Nat} {v : Int32}
theorem pg5 {d kp as un to sc fd tp sh sc' fd' tp' : Row} : ∀ j, j < 5 ∨ j = 8 → pg d kp as un to sc' fd' tp' sh j = pg d kp as un to sc fd tp sh j := by
  intro j hj
  match j, hj with
  | 0, _ => rfl
  | 1, _ => rfl
  | 2, _ => rfl
  | 3, _ => rfl
  | 4, _ => rfl
  | 5, hj => exact absurd hj (by omega)
  | 6, hj => exact absurd hj (by omega)
  | 7, hj => exact absurd hj (by omega)
  | j + 8, _ => rfl
theorem cs_sc0 : ups (cF G) (cct G (pg d kp as un to sc fd tp sh) sp) (cct G (pg d kp as un to (upd sc 0 v) fd tp sh) sp) 5 0 (.inr (1, [.ref (G.ad 5 1), .ref (G.ad 5 2), .int v, .ref (G.ad 0 0), .ref (G.ad 1 0), .ref (G.ad 2 0), .ref (G.ad 3 0), .int (sc 1), .ref (G.ad 5 5), .ref (G.ad 5 6), .ref (G.ad 5 7), .ref (G.ad 5 8), .int (sc 2)])) :=
  cu_5 pg5 (fun _ _ h => h) (fun i' hi' hne a H h => match i', hi', hne, h with | 0, _, hne, h => absurd rfl hne | 1, _, hne, h => h | 2, _, hne, h => h | 3, _, hne, h => h | 4, _, hne, h => h | 5, _, hne, h => h | 6, _, hne, h => h | 7, _, hne, h => h | 8, _, hne, h => h)
theorem cs_sc1 : ups (cF G) (cct G (pg d kp as un to sc fd tp sh) sp) (cct G (pg d kp as un to (upd sc 1 v) fd tp sh) sp) 5 0 (.inr (1, [.ref (G.ad 5 1), .ref (G.ad 5 2), .int (sc 0), .ref (G.ad 0 0), .ref (G.ad 1 0), .ref (G.ad 2 0), .ref (G.ad 3 0), .int v, .ref (G.ad 5 5), .ref (G.ad 5 6), .ref (G.ad 5 7), .ref (G.ad 5 8), .int (sc 2)])) :=
  cu_5 pg5 (fun _ _ h => h) (fun i' hi' hne a H h => match i', hi', hne, h with | 0, _, hne, h => absurd rfl hne | 1, _, hne, h => h | 2, _, hne, h => h | 3, _, hne, h => h | 4, _, hne, h => h | 5, _, hne, h => h | 6, _, hne, h => h | 7, _, hne, h => h | 8, _, hne, h => h)
theorem cs_sc2 : ups (cF G) (cct G (pg d kp as un to sc fd tp sh) sp) (cct G (pg d kp as un to (upd sc 2 v) fd tp sh) sp) 5 0 (.inr (1, [.ref (G.ad 5 1), .ref (G.ad 5 2), .int (sc 0), .ref (G.ad 0 0), .ref (G.ad 1 0), .ref (G.ad 2 0), .ref (G.ad 3 0), .int (sc 1), .ref (G.ad 5 5), .ref (G.ad 5 6), .ref (G.ad 5 7), .ref (G.ad 5 8), .int v])) :=
  cu_5 pg5 (fun _ _ h => h) (fun i' hi' hne a H h => match i', hi', hne, h with | 0, _, hne, h => absurd rfl hne | 1, _, hne, h => h | 2, _, hne, h => h | 3, _, hne, h => h | 4, _, hne, h => h | 5, _, hne, h => h | 6, _, hne, h => h | 7, _, hne, h => h | 8, _, hne, h => h)
theorem cs_sc3 : ups (cF G) (cct G (pg d kp as un to sc fd tp sh) sp) (cct G (pg d kp as un to (upd sc 3 v) fd tp sh) sp) 5 1 (.inr (2, [.null, .null, .null, .null, .null, .int 0, .int v])) :=
  cu_5 pg5 (fun _ _ h => h) (fun i' hi' hne a H h => match i', hi', hne, h with | 0, _, hne, h => h | 1, _, hne, h => absurd rfl hne | 2, _, hne, h => h | 3, _, hne, h => h | 4, _, hne, h => h | 5, _, hne, h => h | 6, _, hne, h => h | 7, _, hne, h => h | 8, _, hne, h => h)
theorem cs_sc4 : ups (cF G) (cct G (pg d kp as un to sc fd tp sh) sp) (cct G (pg d kp as un to (upd sc 4 v) fd tp sh) sp) 5 2 (.inr (3, [.ref (G.ad 5 3), .ref (G.ad 5 4), .ref (G.ad 4 0), .int v, .int (sc 5), .int (sc 6), .int (sc 7), .int (sc 8)])) :=
  cu_5 pg5 (fun _ _ h => h) (fun i' hi' hne a H h => match i', hi', hne, h with | 0, _, hne, h => h | 1, _, hne, h => h | 2, _, hne, h => absurd rfl hne | 3, _, hne, h => h | 4, _, hne, h => h | 5, _, hne, h => h | 6, _, hne, h => h | 7, _, hne, h => h | 8, _, hne, h => h)
theorem cs_sc5 : ups (cF G) (cct G (pg d kp as un to sc fd tp sh) sp) (cct G (pg d kp as un to (upd sc 5 v) fd tp sh) sp) 5 2 (.inr (3, [.ref (G.ad 5 3), .ref (G.ad 5 4), .ref (G.ad 4 0), .int (sc 4), .int v, .int (sc 6), .int (sc 7), .int (sc 8)])) :=
  cu_5 pg5 (fun _ _ h => h) (fun i' hi' hne a H h => match i', hi', hne, h with | 0, _, hne, h => h | 1, _, hne, h => h | 2, _, hne, h => absurd rfl hne | 3, _, hne, h => h | 4, _, hne, h => h | 5, _, hne, h => h | 6, _, hne, h => h | 7, _, hne, h => h | 8, _, hne, h => h)
theorem cs_sc6 : ups (cF G) (cct G (pg d kp as un to sc fd tp sh) sp) (cct G (pg d kp as un to (upd sc 6 v) fd tp sh) sp) 5 2 (.inr (3, [.ref (G.ad 5 3), .ref (G.ad 5 4), .ref (G.ad 4 0), .int (sc 4), .int (sc 5), .int v, .int (sc 7), .int (sc 8)])) :=
  cu_5 pg5 (fun _ _ h => h) (fun i' hi' hne a H h => match i', hi', hne, h with | 0, _, hne, h => h | 1, _, hne, h => h | 2, _, hne, h => absurd rfl hne | 3, _, hne, h => h | 4, _, hne, h => h | 5, _, hne, h => h | 6, _, hne, h => h | 7, _, hne, h => h | 8, _, hne, h => h)
theorem cs_sc7 : ups (cF G) (cct G (pg d kp as un to sc fd tp sh) sp) (cct G (pg d kp as un to (upd sc 7 v) fd tp sh) sp) 5 2 (.inr (3, [.ref (G.ad 5 3), .ref (G.ad 5 4), .ref (G.ad 4 0), .int (sc 4), .int (sc 5), .int (sc 6), .int v, .int (sc 8)])) :=
  cu_5 pg5 (fun _ _ h => h) (fun i' hi' hne a H h => match i', hi', hne, h with | 0, _, hne, h => h | 1, _, hne, h => h | 2, _, hne, h => absurd rfl hne | 3, _, hne, h => h | 4, _, hne, h => h | 5, _, hne, h => h | 6, _, hne, h => h | 7, _, hne, h => h | 8, _, hne, h => h)
theorem cs_sc8 : ups (cF G) (cct G (pg d kp as un to sc fd tp sh) sp) (cct G (pg d kp as un to (upd sc 8 v) fd tp sh) sp) 5 2 (.inr (3, [.ref (G.ad 5 3), .ref (G.ad 5 4), .ref (G.ad 4 0), .int (sc 4), .int (sc 5), .int (sc 6), .int (sc 7), .int v])) :=
  cu_5 pg5 (fun _ _ h => h) (fun i' hi' hne a H h => match i', hi', hne, h with | 0, _, hne, h => h | 1, _, hne, h => h | 2, _, hne, h => absurd rfl hne | 3, _, hne, h => h | 4, _, hne, h => h | 5, _, hne, h => h | 6, _, hne, h => h | 7, _, hne, h => h | 8, _, hne, h => h)
theorem cs_find : ups (cF G) (cct G (pg d kp as un to sc fd tp sh) sp) (cct G (pg d kp as un to sc (upd fd k v) tp sh) sp) 5 8 (.inl (G.ca 0, 7, .inl (upd fd k v))) :=
  cu_5 pg5 (fun _ _ h => h) (fun i' hi' hne a H h => match i', hi', hne, h with | 0, _, _, h => h | 1, _, _, h => h | 2, _, _, h => h | 3, _, _, h => h | 4, _, _, h => h | 5, _, _, h => h | 6, _, _, h => h | 7, _, _, h => h | 8, _, hne, _ => absurd rfl hne)
theorem cs_tape : ups (cF G) (cct G (pg d kp as un to sc fd tp sh) sp) (cct G (pg d kp as un to sc fd (upd tp k v) sh) sp) 5 4 (.inl (G.ca 2, 120, .inl (upd tp k v))) :=
  cu_5 pg5 (fun _ _ h => h) (fun i' hi' hne a H h => match i', hi', hne, h with | 0, _, _, h => h | 1, _, _, h => h | 2, _, _, h => h | 3, _, _, h => h | 4, _, hne, _ => absurd rfl hne | 5, _, _, h => h | 6, _, _, h => h | 7, _, _, h => h | 8, _, _, h => h)
end CS5
