def s_rhythm (w fd sc : Row) (n k : Int32) : Int32 × Row × Row := if p_okTicks n k then ((p_q w n k 0 90).1, fd, upd sc 2 (p_q w n k 0 90).2) else (-1000001, p_find fd 0, sc)
def s_least (w fd sc : Row) (n k : Int32) : Int32 × Row × Row := if p_okTicks n k then ((p_q w n k 0 90).2, fd, upd sc 2 (p_q w n k 0 90).2) else (-1000001, p_find fd 0, sc)
def p_leaf (w : Row) : Row := upd (upd (upd w 2 (p_z (w 2))) 2 (p_z (p_z (w 2)))) (56 + ix (rm (ush (p_z (w 2)) 8) 36)) (rm (ush (p_z (p_z (w 2))) 8) 50)
