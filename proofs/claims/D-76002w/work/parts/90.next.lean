theorem blk_L {tp : Row} {L : Nat} : ∀ f k, k ≤ L → p_blk tp L f k ≤ L
  | 0, k, h => h
  | f + 1, k, h => by
    show (if p_byte tp L k = 32 then _ else _) ≤ L
    split
    · rename_i c
      have := byte_in (tp := tp) (L := L) (k := k) (by rw [c]; decide)
      exact blk_L f (k + 1) (by omega)
    · exact h
theorem in_nn {x lo hi : Int32} (h : p_in x lo hi) (h0 : ¬ lo < 0) : ¬ x < 0 := by
  intro z
  have h1 := Int32.not_lt.mp h.1
  have h2 := Int32.not_lt.mp h0
  rw [Int32.le_iff_toInt_le] at h1 h2
  rw [Int32.lt_iff_toInt_lt] at z
  omega
theorem let_L {tp : Row} {L : Nat} : ∀ f k, k ≤ L → p_let tp L f k ≤ L
  | 0, k, h => h
  | f + 1, k, h => by
    show (if isLt (p_byte tp L k) then _ else _) ≤ L
    split
    · rename_i c
      have := byte_in (tp := tp) (L := L) (k := k) (in_nn c (by decide))
      exact let_L f (k + 1) (by omega)
    · exact h
theorem dig_L {tp : Row} {L : Nat} : ∀ f k v, k ≤ L → (p_dig tp L f k v).1 ≤ L
  | 0, k, v, h => h
  | f + 1, k, v, h => by
    by_cases c : isDg (p_byte tp L k)
    · have := byte_in (tp := tp) (L := L) (k := k) (in_nn c (by decide))
      rw [dig_t c]
      exact dig_L f (k + 1) _ (by omega)
    · rw [dig_f c]
      exact h
theorem tok_L {tp : Row} {L i : Nat} {t v : Int32} (h : i ≤ L) : (p_tok tp L i t v).1 ≤ L := by
  unfold p_tok
  split
  · exact h
  · rename_i c
    have hi := byte_in c
    split
    · split <;> exact let_L _ _ h
    · split
      · split <;> exact dig_L _ _ _ h
      · split
        · exact hi
        · exact h
def c_next (tp : Row) (L a : Nat) (t v : Int32) : (Nat × Nat × Int32 × Int32) × Bool := (((p_tok tp L (p_blk tp L (121 - a) a) t v).1, p_blk tp L (121 - a) a, (p_tok tp L (p_blk tp L (121 - a) a) t v).2.1, (p_tok tp L (p_blk tp L (121 - a) a) t v).2.2.1), (p_tok tp L (p_blk tp L (121 - a) a) t v).2.2.2)
theorem next_L {tp : Row} {L a a' b' : Nat} {t v t' v' : Int32} {ok : Bool} (h : a ≤ L) (hq : c_next tp L a t v = ((a', b', t', v'), ok)) : a' ≤ L ∧ b' ≤ L := by
  have h1 : (p_tok tp L (p_blk tp L (121 - a) a) t v).1 = a' := congrArg (fun z => z.1.1) hq
  have h2 : p_blk tp L (121 - a) a = b' := congrArg (fun z => z.1.2.1) hq
  have hb := blk_L (tp := tp) (L := L) (121 - a) a h
  exact ⟨h1 ▸ tok_L hb, h2 ▸ hb⟩
theorem m_X2_next_T {l : Launch} {G : Gc} {d kp as un to sc fd tp sh : Row} {sp : Nat → Option Nat} {L a b a1 b1 : Nat} {t v t1 v1 : Int32} (hL : L ≤ 120) (ha : a ≤ L) (hq : c_next tp L a t v = ((a1, b1, t1, v1), true)) : Cm l yX2_next (ws_ yX2_next cX2_next 2 none) ({ frames := 6, cells := 0, slots := 0, locals := 130 }) (cF G) [.ref (G.ad 5 2)] (cct G (pg d kp as un to (rd sc L a b t v) fd tp sh) sp) (fun _ : Unit => none) (fun _ => (cct G (pg d kp as un to (rd sc L a1 b1 t1 v1) fd tp sh) sp)) := by
  have h := m_X2_next_t (l := l) (G := G) (d := d) (kp := kp) (as := as) (un := un) (to := to) (sc := sc) (fd := fd) (tp := tp) (sh := sh) (sp := sp) (L := L) (a := a) (b := b) (t := t) (v := v) hL (by omega) (congrArg (fun z => z.2) hq)
  have h1 : (p_tok tp L (p_blk tp L (121 - a) a) t v).1 = a1 := congrArg (fun z => z.1.1) hq
  have h2 : p_blk tp L (121 - a) a = b1 := congrArg (fun z => z.1.2.1) hq
  have h3 : (p_tok tp L (p_blk tp L (121 - a) a) t v).2.1 = t1 := congrArg (fun z => z.1.2.2.1) hq
  have h4 : (p_tok tp L (p_blk tp L (121 - a) a) t v).2.2.1 = v1 := congrArg (fun z => z.1.2.2.2) hq
  rw [h1, h3, h4, h2] at h
  exact h
theorem m_X2_next_F {l : Launch} {G : Gc} {d kp as un to sc fd tp sh : Row} {sp : Nat → Option Nat} {L a b a1 b1 : Nat} {t v t1 v1 : Int32} (hL : L ≤ 120) (ha : a ≤ L) (hq : c_next tp L a t v = ((a1, b1, t1, v1), false)) : CmX l yX2_next (ws_ yX2_next cX2_next 2 none) ({ frames := 6, cells := 0, slots := 0, locals := 130 }) (cF G) [.ref (G.ad 5 2)] (cct G (pg d kp as un to (rd sc L a b t v) fd tp sh) sp) (fun _ : Unit => .threw (G.ad 5 3)) (fun _ => (cct G (pg d kp as un to (rd sc L a1 b1 t1 v1) fd tp sh) sp)) := by
  have h := m_X2_next_f (l := l) (G := G) (d := d) (kp := kp) (as := as) (un := un) (to := to) (sc := sc) (fd := fd) (tp := tp) (sh := sh) (sp := sp) (L := L) (a := a) (b := b) (t := t) (v := v) hL (by omega) (congrArg (fun z => z.2) hq)
  have h1 : (p_tok tp L (p_blk tp L (121 - a) a) t v).1 = a1 := congrArg (fun z => z.1.1) hq
  have h2 : p_blk tp L (121 - a) a = b1 := congrArg (fun z => z.1.2.1) hq
  have h3 : (p_tok tp L (p_blk tp L (121 - a) a) t v).2.1 = t1 := congrArg (fun z => z.1.2.2.1) hq
  have h4 : (p_tok tp L (p_blk tp L (121 - a) a) t v).2.2.1 = v1 := congrArg (fun z => z.1.2.2.2) hq
  rw [h1, h3, h4, h2] at h
  exact h
