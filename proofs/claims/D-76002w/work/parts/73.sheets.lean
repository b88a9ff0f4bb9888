def GW (G : Gc) : Prop := ∀ i, i < 4 → (G.sw i = 0 ∨ G.sw i = 8 ∨ G.sw i = 16 ∨ G.sw i = 32) ∧ G.sn i ≤ 40
abbrev swr (G : Gc) : Row := fun i => nI (G.sw i)
abbrev snr (G : Gc) : Row := fun i => nI (G.sn i)
section SHE
variable {G : Gc} {P : Nat → Row} {sp : Nat → Option Nat} {i : Nat}
theorem c10_8 (h : G.sw i = 8) : cct G P sp 10 i = .inl (G.ca 2, G.sn i, .inl (fun k => P 8 (40 * i + k))) := by
  show Sum.inl (if G.sw i = 8 then G.ca 2 else if G.sw i = 16 then G.ca 4 else G.ca 0, G.sn i, _) = _
  rw [if_pos h]
theorem c10_16 (h : G.sw i = 16) : cct G P sp 10 i = .inl (G.ca 4, G.sn i, .inl (fun k => P 8 (40 * i + k))) := by
  show Sum.inl (if G.sw i = 8 then G.ca 2 else if G.sw i = 16 then G.ca 4 else G.ca 0, G.sn i, _) = _
  rw [if_neg (by omega), if_pos h]
theorem c10_32 (h : G.sw i = 32) : cct G P sp 10 i = .inl (G.ca 0, G.sn i, .inl (fun k => P 8 (40 * i + k))) := by
  show Sum.inl (if G.sw i = 8 then G.ca 2 else if G.sw i = 16 then G.ca 4 else G.ca 0, G.sn i, _) = _
  rw [if_neg (by omega), if_neg (by omega)]
theorem c9_n (h : ¬ G.sw i = 0) : cct G P sp 9 i = .inr (5, [.ref (G.ad 10 i)]) := by
  show Sum.inr (5, [if G.sw i = 0 then Value.null else .ref (G.ad 10 i)]) = _
  rw [if_neg h]
theorem c9_0 (h : G.sw i = 0) : cct G P sp 9 i = .inr (5, [.null]) := by
  show Sum.inr (5, [if G.sw i = 0 then Value.null else .ref (G.ad 10 i)]) = _
  rw [if_pos h]
theorem cin10 (hi : i < 4) (h : ¬ G.sw i = 0) : (10, i) ∈ (cF G).ids := cin (by simp [chas, hi, h])
theorem cin9 (hi : i < 4) : (9, i) ∈ (cF G).ids := cin (by simp [chas, hi])
end SHE
theorem fx_arr {F : Fam} {ct : Ct} {s : State} {H : Heap} {locs : List Loc} {g i t0 : Nat} {cA : ClassId} {x : vp_A} {ty : FieldType} {nm : String} (hX : fX F s) (hC : fC F ct s.heap H locs) (hi : (g, i) ∈ F.ids) (he : ct g i = .inl (cA, x)) (ht : F.tys[t0]? = some (cA, ty)) (hnm : va_RA s cA ty → s.vm.findClass nm = some cA) : ∃ cell : Cell, H[F.ad g i]? = some cell ∧ cell.vm.isStatics = false ∧ s.vm.findClass nm = some cell.cls := by
  obtain ⟨k, -, hk⟩ := fl_at hi
  have h1 : va_at F.D F.cl (F.ad g i, ct g i) H := hC.1 k _ (hk ct)
  rw [he] at h1
  have hvm0 : (vp_cell cA x).vm = .none := by
    obtain ⟨n, f | f | f | f | f⟩ := x <;> rfl
  have hcl0 : (vp_cell cA x).cls = cA := by
    obtain ⟨n, f | f | f | f | f⟩ := x <;> rfl
  exact ⟨_, h1, by rw [hvm0]; rfl, by rw [hcl0]; exact hnm (hX.2.1.2 t0 _ ht).2⟩
theorem aB : "[" ++ FieldType.byte.toString = "[B" := by decide +kernel
theorem aS : "[" ++ FieldType.short.toString = "[S" := by decide +kernel
theorem aI : "[" ++ FieldType.int.toString = "[I" := by decide +kernel
theorem fx_w8 {G : Gc} {P : Nat → Row} {sp : Nat → Option Nat} {s : State} {H : Heap} {locs : List Loc} {i : Nat} (hX : fX (cF G) s) (hC : fC (cF G) (cct G P sp) s.heap H locs) (hi : i < 4) (h : G.sw i = 8) : ∃ cell : Cell, H[G.ad 10 i]? = some cell ∧ cell.vm.isStatics = false ∧ s.vm.findClass "[B" = some cell.cls :=
  fx_arr (t0 := 2) hX hC (cin10 hi (by omega)) (c10_8 h) rfl (fun z => by have z : s.vm.findClass ("[" ++ FieldType.byte.toString) = some (G.ca 2) := z; rw [aB] at z; exact z)
theorem fx_w16 {G : Gc} {P : Nat → Row} {sp : Nat → Option Nat} {s : State} {H : Heap} {locs : List Loc} {i : Nat} (hX : fX (cF G) s) (hC : fC (cF G) (cct G P sp) s.heap H locs) (hi : i < 4) (h : G.sw i = 16) : ∃ cell : Cell, H[G.ad 10 i]? = some cell ∧ cell.vm.isStatics = false ∧ s.vm.findClass "[S" = some cell.cls :=
  fx_arr (t0 := 4) hX hC (cin10 hi (by omega)) (c10_16 h) rfl (fun z => by have z : s.vm.findClass ("[" ++ FieldType.short.toString) = some (G.ca 4) := z; rw [aS] at z; exact z)
theorem fx_w32 {G : Gc} {P : Nat → Row} {sp : Nat → Option Nat} {s : State} {H : Heap} {locs : List Loc} {i : Nat} (hX : fX (cF G) s) (hC : fC (cF G) (cct G P sp) s.heap H locs) (hi : i < 4) (h : G.sw i = 32) : ∃ cell : Cell, H[G.ad 10 i]? = some cell ∧ cell.vm.isStatics = false ∧ s.vm.findClass "[I" = some cell.cls :=
  fx_arr (t0 := 0) hX hC (cin10 hi (by omega)) (c10_32 h) rfl (fun z => by have z : s.vm.findClass ("[" ++ FieldType.int.toString) = some (G.ca 0) := z; rw [aI] at z; exact z)
theorem nc_SB : (Cond.not (.castable "[S" "[B")) ∈ flatC (Jvm.Cond.and given_1 narrow_1) := by decide +kernel
theorem nc_IB : (Cond.not (.castable "[I" "[B")) ∈ flatC (Jvm.Cond.and given_1 narrow_1) := by decide +kernel
theorem nc_IS : (Cond.not (.castable "[I" "[S")) ∈ flatC (Jvm.Cond.and given_1 narrow_1) := by decide +kernel
theorem nar16 (x : Int32) : vp_nar .short (x.toInt16.toInt32) = vp_nar .short x := by
  rw [vp_nar_short, vp_nar_short]
  apply Int32.toBitVec_inj.mp
  simp
theorem pg8 {d kp as un to sc fd tp sh sh' : Row} : ∀ j, j < 8 → pg d kp as un to sc fd tp sh' j = pg d kp as un to sc fd tp sh j := by
  intro j hj
  match j, hj with
  | 0, _ => rfl
  | 1, _ => rfl
  | 2, _ => rfl
  | 3, _ => rfl
  | 4, _ => rfl
  | 5, _ => rfl
  | 6, _ => rfl
  | 7, _ => rfl
theorem cu_10 {G : Gc} {d kp as un to sc fd tp sh sh' : Row} {sp : Nat → Option Nat} {i : Nat} {e : va_E} (hi : i < 4)
    (h1 : ∀ a H, va_at G.D clC (a, e) H → va_at G.D clC (a, cct G (pg d kp as un to sc fd tp sh') sp 10 i) H)
    (h2 : ∀ b, b < 4 → ¬ b = i → ∀ j, j < G.sn b → sh' (40 * b + j) = sh (40 * b + j)) : ups (cF G) (cct G (pg d kp as un to sc fd tp sh) sp) (cct G (pg d kp as un to sc fd tp sh') sp) 10 i e := by
  refine ⟨fun H h => h1 _ H h, fun x hx hne H h => ?_⟩
  have hc := cin_inv hx
  obtain ⟨a, b⟩ := x
  by_cases ha : a = 10
  · subst ha
    have hb : b < 4 := by
      have : (decide (b < 4) && !(G.sw b == 0)) = true := hc
      simp only [Bool.and_eq_true, decide_eq_true_eq] at this
      exact this.1
    have hbi : ¬ b = i := fun q => hne (by rw [q])
    exact at_arr (f := fun k => sh (40 * b + k)) (f' := fun k => sh' (40 * b + k)) (fun j hj => (h2 b hb hbi j hj).symm) H h
  · by_cases hw : a < 5
    · rw [cct_w hw] at h ⊢
      rw [pg8 a (by omega)]
      exact h
    · have e : cct G (pg d kp as un to sc fd tp sh') sp a b = cct G (pg d kp as un to sc fd tp sh) sp a b := by
        have hd : a = 5 ∨ a = 8 ∨ a = 9 ∨ a = 20 ∨ a = 21 ∨ a = 22 ∨ a = 23 ∨ a = 24 ∨ a = 25 ∨ a = 26 ∨ a = 30 ∨ a = 31 ∨ a = 32 ∨ a = 33 ∨ a = 34 ∨ a = 35 ∨ a = 36 := by
          unfold chas at hc
          split at hc
          all_goals first | omega | (simp only [Bool.and_eq_true, decide_eq_true_eq] at hc; omega)
        rcases hd with rfl | rfl | rfl | rfl | rfl | rfl | rfl | rfl | rfl | rfl | rfl | rfl | rfl | rfl | rfl | rfl | rfl
        all_goals rfl
      rw [e]
      exact h
theorem cs_sh {G : Gc} {d kp as un to sc fd tp sh : Row} {sp : Nat → Option Nat} {i k : Nat} {v : Int32} {cA : ClassId} (hG : GW G) (hi : i < 4) (hk : k < G.sn i) (hA : ∀ sh : Row, cct G (pg d kp as un to sc fd tp sh) sp 10 i = .inl (cA, G.sn i, .inl (fun j => sh (40 * i + j)))) : ups (cF G) (cct G (pg d kp as un to sc fd tp sh) sp) (cct G (pg d kp as un to sc fd tp (upd sh (40 * i + k) v)) sp) 10 i (.inl (cA, G.sn i, .inl (upd (fun j => sh (40 * i + j)) k v))) := by
  refine cu_10 hi (fun a H h => ?_) (fun b hb hbi j hj => ?_)
  · rw [hA]
    refine at_arr (f := upd (fun j => sh (40 * i + j)) k v) (f' := fun j => upd sh (40 * i + k) v (40 * i + j)) (fun j hj => ?_) H h
    by_cases q : j = k
    · subst q
      rw [upd_s]
      exact upd_s.symm
    · rw [upd_n q]
      exact (upd_n (by omega)).symm
  · have := (hG b hb).2
    have := (hG i hi).2
    exact upd_n (by omega)
