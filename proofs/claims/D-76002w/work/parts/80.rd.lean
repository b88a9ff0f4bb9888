def rd (sc : Row) (L a b : Nat) (t v : Int32) : Row := fun j => match j with
  | 4 => nI L
  | 5 => nI a
  | 6 => nI b
  | 7 => t
  | 8 => v
  | j => sc j
theorem rd_of {sc : Row} {L a b : Nat} (h4 : sc 4 = nI L) (h5 : sc 5 = nI a) (h6 : sc 6 = nI b) : sc = rd sc L a b (sc 7) (sc 8) := by
  funext j
  match j with
  | 0 => rfl
  | 1 => rfl
  | 2 => rfl
  | 3 => rfl
  | 4 => exact h4
  | 5 => exact h5
  | 6 => exact h6
  | 7 => rfl
  | 8 => rfl
  | _ + 9 => rfl
theorem cs_rd {G : Gc} {d kp as un to sc fd tp sh : Row} {sp : Nat → Option Nat} {L a b L' a' b' : Nat} {t v t' v' : Int32} : ups (cF G) (cct G (pg d kp as un to (rd sc L a b t v) fd tp sh) sp) (cct G (pg d kp as un to (rd sc L' a' b' t' v') fd tp sh) sp) 5 2 (.inr (3, [.ref (G.ad 5 3), .ref (G.ad 5 4), .ref (G.ad 4 0), .int (nI L'), .int (nI a'), .int (nI b'), .int t', .int v'])) :=
  cu_5 pg5 (fun _ _ h => h) (fun i' hi' hne a H h => match i', hi', hne, h with | 0, _, hne, h => h | 1, _, hne, h => h | 2, _, hne, h => absurd rfl hne | 3, _, hne, h => h | 4, _, hne, h => h | 5, _, hne, h => h | 6, _, hne, h => h | 7, _, hne, h => h | 8, _, hne, h => h)
def p_byte (tp : Row) (L k : Nat) : Int32 := if k < L then tp k &&& 255 else -1
theorem byte_out {tp : Row} {L k : Nat} (h : L ≤ k) : p_byte tp L k = -1 := if_neg (by omega)
abbrev isDg (x : Int32) : Prop := p_in x 48 57
abbrev isLt (x : Int32) : Prop := p_in x 97 122
def p_dig (tp : Row) (L : Nat) : Nat → Nat → Int32 → Nat × Int32
  | 0, k, v => (k, v)
  | f + 1, k, v => if isDg (p_byte tp L k) then p_dig tp L f (k + 1) (if 999 < v then v else 10 * v + p_byte tp L k - 48) else (k, v)
theorem dig_t {tp : Row} {L f k : Nat} {v : Int32} (h : isDg (p_byte tp L k)) : p_dig tp L (f + 1) k v = p_dig tp L f (k + 1) (if 999 < v then v else 10 * v + p_byte tp L k - 48) := if_pos h
theorem dig_f {tp : Row} {L f k : Nat} {v : Int32} (h : ¬ isDg (p_byte tp L k)) : p_dig tp L (f + 1) k v = (k, v) := if_neg h
def p_let (tp : Row) (L : Nat) : Nat → Nat → Nat
  | 0, k => k
  | f + 1, k => if isLt (p_byte tp L k) then p_let tp L f (k + 1) else k
theorem let_t {tp : Row} {L f k : Nat} (h : isLt (p_byte tp L k)) : p_let tp L (f + 1) k = p_let tp L f (k + 1) := if_pos h
theorem let_f {tp : Row} {L f k : Nat} (h : ¬ isLt (p_byte tp L k)) : p_let tp L (f + 1) k = k := if_neg h
def p_blk (tp : Row) (L : Nat) : Nat → Nat → Nat
  | 0, k => k
  | f + 1, k => if p_byte tp L k = 32 then p_blk tp L f (k + 1) else k
theorem blk_t {tp : Row} {L f k : Nat} (h : p_byte tp L k = 32) : p_blk tp L (f + 1) k = p_blk tp L f (k + 1) := if_pos h
theorem blk_f {tp : Row} {L f k : Nat} (h : ¬ p_byte tp L k = 32) : p_blk tp L (f + 1) k = k := if_neg h
