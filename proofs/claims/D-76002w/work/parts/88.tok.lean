theorem byte_in {tp : Row} {L k : Nat} (h : ¬ p_byte tp L k < 0) : k < L := by
  rcases Nat.lt_or_ge k L with q | q
  · exact q
  · exact absurd (show p_byte tp L k < 0 by rw [byte_out q]; decide) h
def p_tok (tp : Row) (L i : Nat) (t v : Int32) : Nat × Int32 × Int32 × Bool :=
  if p_byte tp L i < 0 then (i, 0, v, true)
  else if isLt (p_byte tp L i) then (if p_fk tp L i (p_let tp L (121 - i) i - i) 18 0 < 18 then (p_let tp L (121 - i) i, 2, nI (p_fk tp L i (p_let tp L (121 - i) i - i) 18 0), true) else (p_let tp L (121 - i) i, t, v, false))
  else if isDg (p_byte tp L i) then (if 999 < (p_dig tp L (121 - i) i 0).2 then ((p_dig tp L (121 - i) i 0).1, 1, (p_dig tp L (121 - i) i 0).2, false) else ((p_dig tp L (121 - i) i 0).1, 1, (p_dig tp L (121 - i) i 0).2, true))
  else if p_byte tp L i = 59 then (i + 1, 3, v, true) else (i, t, v, false)
