section FW
variable {p : Program} {l : Launch} {e : Env} {R : Room} {s : State} {m : MethodId} {args : Array Value} {below : List Frame} {meth : Method} {c : Code} {H : Heap} {locs : List Loc} {cells slots : Nat} {Q : State → Prop}
variable {cc : ByteArray} {pc : Nat} {ls : Array Slot} {rest : List Value}
theorem fi_ge (hx : p.tables.exec = Jvm.exec) (hb : c.code = cc) {x : Int32} {off : Int} {tgt : Nat} (hdg : decode cc pc = .ok (.ifCond .ge off, 3)) (ht : (pc : Int) + off = (tgt : Int))
    (kt : ¬ x < 0 → W p l e R s m args below meth c H locs cells slots Q (F0 m tgt ls rest)) (kf : x < 0 → W p l e R s m args below meth c H locs cells slots Q (F0 m (pc + 3) ls rest)) : W p l e R s m args below meth c H locs cells slots Q (F0 m pc ls (.int x :: rest)) :=
  lv_if_ge hx hb hdg ht (fun h => kt (Int32.not_lt.mpr h)) (fun h => kf (Int32.not_le.mp h))
theorem fi_le (hx : p.tables.exec = Jvm.exec) (hb : c.code = cc) {x : Int32} {off : Int} {tgt : Nat} (hdg : decode cc pc = .ok (.ifCond .le off, 3)) (ht : (pc : Int) + off = (tgt : Int))
    (kt : ¬ 0 < x → W p l e R s m args below meth c H locs cells slots Q (F0 m tgt ls rest)) (kf : 0 < x → W p l e R s m args below meth c H locs cells slots Q (F0 m (pc + 3) ls rest)) : W p l e R s m args below meth c H locs cells slots Q (F0 m pc ls (.int x :: rest)) :=
  lv_if_le hx hb hdg ht (fun h => kt (Int32.not_lt.mpr h)) (fun h => kf (Int32.not_le.mp h))
theorem fj_ge (hx : p.tables.exec = Jvm.exec) (hb : c.code = cc) {x y : Int32} {off : Int} {tgt : Nat} (hdg : decode cc pc = .ok (.if_icmp .ge off, 3)) (ht : (pc : Int) + off = (tgt : Int))
    (kt : ¬ x < y → W p l e R s m args below meth c H locs cells slots Q (F0 m tgt ls rest)) (kf : x < y → W p l e R s m args below meth c H locs cells slots Q (F0 m (pc + 3) ls rest)) : W p l e R s m args below meth c H locs cells slots Q (F0 m pc ls (.int y :: .int x :: rest)) :=
  lv_icmp_ge hx hb hdg ht (fun h => kt (Int32.not_lt.mpr h)) (fun h => kf (Int32.not_le.mp h))
theorem fj_le (hx : p.tables.exec = Jvm.exec) (hb : c.code = cc) {x y : Int32} {off : Int} {tgt : Nat} (hdg : decode cc pc = .ok (.if_icmp .le off, 3)) (ht : (pc : Int) + off = (tgt : Int))
    (kt : ¬ y < x → W p l e R s m args below meth c H locs cells slots Q (F0 m tgt ls rest)) (kf : y < x → W p l e R s m args below meth c H locs cells slots Q (F0 m (pc + 3) ls rest)) : W p l e R s m args below meth c H locs cells slots Q (F0 m pc ls (.int y :: .int x :: rest)) :=
  lv_icmp_le hx hb hdg ht (fun h => kt (Int32.not_lt.mpr h)) (fun h => kf (Int32.not_le.mp h))
theorem fb_eq {q : Prop} [Decidable q] (hx : p.tables.exec = Jvm.exec) (hb : c.code = cc) {off : Int} {tgt : Nat} (hdg : decode cc pc = .ok (.ifCond .eq off, 3)) (ht : (pc : Int) + off = (tgt : Int))
    (kt : ¬ q → W p l e R s m args below meth c H locs cells slots Q (F0 m tgt ls rest)) (kf : q → W p l e R s m args below meth c H locs cells slots Q (F0 m (pc + 3) ls rest)) : W p l e R s m args below meth c H locs cells slots Q (F0 m pc ls (.int (b2i q) :: rest)) :=
  lv_if_eq hx hb hdg ht (fun h => kt (b2i_0.mp h)) (fun h => kf (Classical.not_not.mp fun z => h (b2i_f z)))
theorem fb_ne {q : Prop} [Decidable q] (hx : p.tables.exec = Jvm.exec) (hb : c.code = cc) {off : Int} {tgt : Nat} (hdg : decode cc pc = .ok (.ifCond .ne off, 3)) (ht : (pc : Int) + off = (tgt : Int))
    (kt : q → W p l e R s m args below meth c H locs cells slots Q (F0 m tgt ls rest)) (kf : ¬ q → W p l e R s m args below meth c H locs cells slots Q (F0 m (pc + 3) ls rest)) : W p l e R s m args below meth c H locs cells slots Q (F0 m pc ls (.int (b2i q) :: rest)) :=
  lv_if_ne hx hb hdg ht (fun h => kt (Classical.not_not.mp fun z => h (b2i_f z))) (fun h => kf (b2i_0.mp h))
theorem fw_join {C : Prop} [Decidable C] {a b : Int32} {pcj : Nat} {g0 : JFrame}
    (B : (C → W p l e R s m args below meth c H locs cells slots Q (F0 m pcj ls (.int a :: rest))) → (¬ C → W p l e R s m args below meth c H locs cells slots Q (F0 m pcj ls (.int b :: rest))) → W p l e R s m args below meth c H locs cells slots Q g0)
    (J : W p l e R s m args below meth c H locs cells slots Q (F0 m pcj ls (.int (if C then a else b) :: rest))) : W p l e R s m args below meth c H locs cells slots Q g0 :=
  B (fun h => by rw [if_pos h] at J; exact J) (fun h => by rw [if_neg h] at J; exact J)
theorem fw_joinb {C : Prop} [Decidable C] {pcj : Nat} {g0 : JFrame}
    (B : (C → W p l e R s m args below meth c H locs cells slots Q (F0 m pcj ls (.int 1 :: rest))) → (¬ C → W p l e R s m args below meth c H locs cells slots Q (F0 m pcj ls (.int 0 :: rest))) → W p l e R s m args below meth c H locs cells slots Q g0)
    (J : W p l e R s m args below meth c H locs cells slots Q (F0 m pcj ls (.int (b2i C) :: rest))) : W p l e R s m args below meth c H locs cells slots Q g0 :=
  B (fun h => by rw [b2i_t h] at J; exact J) (fun h => by rw [b2i_f h] at J; exact J)
theorem fw_joinl {C : Prop} [Decidable C] {a b : Int64} {pcj : Nat} {g0 : JFrame}
    (B : (C → W p l e R s m args below meth c H locs cells slots Q (F0 m pcj ls (.long a :: rest))) → (¬ C → W p l e R s m args below meth c H locs cells slots Q (F0 m pcj ls (.long b :: rest))) → W p l e R s m args below meth c H locs cells slots Q g0)
    (J : W p l e R s m args below meth c H locs cells slots Q (F0 m pcj ls (.long (if C then a else b) :: rest))) : W p l e R s m args below meth c H locs cells slots Q g0 :=
  B (fun h => by rw [if_pos h] at J; exact J) (fun h => by rw [if_neg h] at J; exact J)
theorem fw_irem (hx : p.tables.exec = Jvm.exec) (hb : c.code = cc) {x y : Int32} (hdg : decode cc pc = .ok (.irem, 1)) (hne : ¬ y = 0)
    (k : W p l e R s m args below meth c H locs cells slots Q (F0 m (pc + 1) ls (.int (rm x y) :: rest))) : W p l e R s m args below meth c H locs cells slots Q (F0 m pc ls (.int y :: .int x :: rest)) := lv_irem hx hb hdg hne k
theorem fw_iushr (hx : p.tables.exec = Jvm.exec) (hb : c.code = cc) {x y : Int32} (hdg : decode cc pc = .ok (.iushr, 1))
    (k : W p l e R s m args below meth c H locs cells slots Q (F0 m (pc + 1) ls (.int (ush x y) :: rest))) : W p l e R s m args below meth c H locs cells slots Q (F0 m pc ls (.int y :: .int x :: rest)) := lv_iushr hx hb hdg rfl k
theorem fw_abs {own : String} {index : Nat} (hx : p.tables.exec = Jvm.exec) (hb : c.code = cc) (hml : c.maxLocals = ls.size) (hown : s.vm.findClass own = some m.cls) (hts : ∀ w ∈ lw_all, w.before args s = true) (hlink : Cond.methodLink own index Lib.Math.abs.name ∈ lw_all) (hframes : 1 ≤ R.frames) (hlocals : (rest.map fun v => v.category).sum + 13 ≤ R.locals) (hc : cells ≤ R.cells) (hs : slots ≤ R.slots) (h1 : Cond.static Lib.Math.abs.name ∈ lw_all) (h2 : Cond.initialized "java/lang/Math" ∈ lw_all) (h3 : Cond.code Lib.Math.abs.name Lib.Math.abs.code 1 (some .int) ∈ lw_all) {x : Int32} (hdg : decode cc pc = .ok (.invokestatic index, 3))
    (kk : W p l e R s m args below meth c H locs cells slots Q (F0 m (pc + 3) ls (.int (ab x) :: rest))) : W p l e R s m args below meth c H locs cells slots Q (F0 m pc ls (.int x :: rest)) :=
  va_mabs hx hb hml hown (hts _ hlink) (hts _ h1) (hts _ h2) (hts _ h3) hframes hlocals hc hs hdg kk
theorem fw_max {own : String} {index : Nat} (hx : p.tables.exec = Jvm.exec) (hb : c.code = cc) (hml : c.maxLocals = ls.size) (hown : s.vm.findClass own = some m.cls) (hts : ∀ w ∈ lw_all, w.before args s = true) (hlink : Cond.methodLink own index Lib.Math.max.name ∈ lw_all) (hframes : 1 ≤ R.frames) (hlocals : (rest.map fun v => v.category).sum + 13 ≤ R.locals) (hc : cells ≤ R.cells) (hs : slots ≤ R.slots) (h1 : Cond.static Lib.Math.max.name ∈ lw_all) (h2 : Cond.initialized "java/lang/Math" ∈ lw_all) (h3 : Cond.code Lib.Math.max.name Lib.Math.max.code 2 (some .int) ∈ lw_all) {x y : Int32} (hdg : decode cc pc = .ok (.invokestatic index, 3))
    (kk : W p l e R s m args below meth c H locs cells slots Q (F0 m (pc + 3) ls (.int (mx x y) :: rest))) : W p l e R s m args below meth c H locs cells slots Q (F0 m pc ls (.int y :: .int x :: rest)) :=
  va_mmax hx hb hml hown (hts _ hlink) (hts _ h1) (hts _ h2) (hts _ h3) hframes hlocals hc hs hdg kk
theorem fw_min {own : String} {index : Nat} (hx : p.tables.exec = Jvm.exec) (hb : c.code = cc) (hml : c.maxLocals = ls.size) (hown : s.vm.findClass own = some m.cls) (hts : ∀ w ∈ lw_all, w.before args s = true) (hlink : Cond.methodLink own index Lib.Math.min.name ∈ lw_all) (hframes : 1 ≤ R.frames) (hlocals : (rest.map fun v => v.category).sum + 13 ≤ R.locals) (hc : cells ≤ R.cells) (hs : slots ≤ R.slots) (h1 : Cond.static Lib.Math.min.name ∈ lw_all) (h2 : Cond.initialized "java/lang/Math" ∈ lw_all) (h3 : Cond.code Lib.Math.min.name Lib.Math.min.code 2 (some .int) ∈ lw_all) {x y : Int32} (hdg : decode cc pc = .ok (.invokestatic index, 3))
    (kk : W p l e R s m args below meth c H locs cells slots Q (F0 m (pc + 3) ls (.int (mn x y) :: rest))) : W p l e R s m args below meth c H locs cells slots Q (F0 m pc ls (.int y :: .int x :: rest)) :=
  va_mmin hx hb hml hown (hts _ hlink) (hts _ h1) (hts _ h2) (hts _ h3) hframes hlocals hc hs hdg kk
theorem fg_ald {F : Fam} {ct : Ct} {g i n t0 : Nat} {cA : ClassId} {ty : FieldType} {f : Nat → Option Nat} (hx : p.tables.exec = Jvm.exec) (hb : c.code = cc) (hX : fX F s) (hC : fC F ct s.heap H locs) (hi : (g, i) ∈ F.ids) (he : ct g i = .inl (cA, n, .inr (.inr (.inr (.inr f))))) (ht : F.tys[t0]? = some (cA, ty)) (hty : ty.isReference = true) {j : Int32} (hin : vp_in j n) {v : Value} (hv : va_rf (f j.toNatClampNeg) = v) (hdg : decode cc pc = .ok (.aaload, 1))
    (kk : W p l e R s m args below meth c H locs cells slots Q (F0 m (pc + 1) ls (v :: rest))) : W p l e R s m args below meth c H locs cells slots Q (F0 m pc ls (.int j :: .ref (F.ad g i) :: rest)) := by
  obtain ⟨q, -, hq⟩ := fl_at hi
  subst hv
  have hlt : j.toNatClampNeg < n := vin_lt hin
  have hcell : H[F.ad g i]? = some (vp_cell cA (n, .inr (.inr (.inr (.inr f))))) := hC.1 q (F.ad g i, .inl (cA, n, .inr (.inr (.inr (.inr f))))) (by rw [hq ct, he])
  exact W.aald (v := va_rf (f j.toNatClampNeg)) (ty := ty) hx hb hcell ((hX.2.1.2 t0 _ ht).1 n (fun j => va_rf (f j))) hty (fun q => by cases q) (by show ¬ (j < 0 ∨ (arrV _ _ _).slots.size ≤ _); rw [arrV_size]; exact hin) (by show (arrV _ _ _).slots[_]? = _; rw [arrV_read _ _ hlt]) rfl rfl hdg kk
end FW
theorem tabo {x : Int32} (lo n : Nat) (hn : lo + n < 2 ^ 31) (h : ∀ k, k < n → ¬ x = nI (lo + k)) {hi : Int} (hh : hi = (lo : Int) + n - 1) : x.toInt < (lo : Int) ∨ hi < x.toInt := by
  subst hh
  by_cases h1 : x.toInt < (lo : Int)
  · exact Or.inl h1
  · by_cases h2 : (lo : Int) + n - 1 < x.toInt
    · exact Or.inr h2
    · have h0 : ¬ x < 0 := by
        rw [Int32.lt_iff_toInt_lt]
        have : (0 : Int32).toInt = 0 := rfl
        omega
      obtain ⟨j, hj, rfl⟩ := nI_of h0
      rw [nI_toInt hj] at h1 h2
      exact absurd (by congr 1; omega) (h (j - lo) (by omega))
theorem TB.F {adK : Nat → Nat} {U : State} (h : TB adK U) {a : String} {i : Nat} {b n d hh : String} (hw : Cond.fieldLinkNest a i b n d hh ∈ lw_tbl) : va_Nw (.fieldLinkNest a i b n d hh) U := by
  obtain ⟨s0, b0, h1, h2, -⟩ := h
  exact va_Nw.warmF h1 (va_Nw.of rfl (h2 _ hw))
theorem TB.M {adK : Nat → Nat} {U : State} (h : TB adK U) {a : String} {i : Nat} {x : MethodName} {hh : String} (hw : Cond.methodLinkNest a i x hh ∈ lw_tbl) : va_Nw (.methodLinkNest a i x hh) U := by
  obtain ⟨s0, b0, h1, h2, -⟩ := h
  exact va_Nw.warmM h1 (va_Nw.of rfl (h2 _ hw))
