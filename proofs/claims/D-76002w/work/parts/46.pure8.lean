theorem has_dec (w : Row) (k : Int32) (q : Nat) : True := trivial
abbrev p_hasAt (w : Row) (k : Int32) (q v : Nat) : Prop := p_has (upd w q (nI v)) k
def s_of (w fd : Row) (k what : Int32) : Int32 × Row := if p_in k 0 (w 1 - 1) then (if what = 0 then (w (92 + 4 * ix k), fd) else if what = 1 then (w (93 + 4 * ix k), fd) else if what = 2 then (w (94 + 4 * ix k), fd) else if what = 3 then (w (95 + 4 * ix k), fd) else if what = 4 then (p_takes w k, fd) else if what = 5 then (p_deep w k, fd) else if what = 6 then (p_wide w k, fd) else if what = 7 then (b2i (p_has w k), fd) else (-1000001, p_find fd 0)) else (-1000001, p_find fd 0)
def s_aim (w fd : Row) (k : Int32) : Int32 × Row := if p_in k 0 (w 1 - 1) then p_none fd (p_fst (p_hasAt w k (93 + 4 * ix k)) 36 0) else (-1000001, p_find fd 0)
def s_wait (w fd : Row) (k : Int32) : Int32 × Row := if p_in k 0 (w 1 - 1) then p_none fd (p_fst (p_hasAt w k (94 + 4 * ix k)) 10 0) else (-1000001, p_find fd 0)
def p_lv (w : Row) : Nat → Int32 × Row
  | 0 => (0, w)
  | n + 1 => ((p_lv w n).1 + (if p_hears (p_leaf (p_lv w n).2) then 1 else 0), p_tick (p_leaf (p_lv w n).2))
def s_leaves (w fd : Row) (n : Int32) : Int32 × Row × Row := if p_in n 1 20 then (if 99999 < w 0 + n then (-1000005, w, p_find fd 4) else ((p_lv w (ix n)).1, (p_lv w (ix n)).2, fd)) else (-1000001, w, p_find fd 0)
def p_cnt (P : Nat → Prop) [DecidablePred P] : Nat → Nat
  | 0 => 0
  | n + 1 => p_cnt P n + (if P n then 1 else 0)
def p_above (w : Row) : Nat := p_cnt (fun k => w (56 + k) = 0) 36
def p_pow (x : Int64) : Nat → Int64
  | 0 => 1
  | n + 1 => p_pow x n * x
def s_odds (w fd : Row) (n what : Int32) : Int64 × Row := if p_in n 0 11 ∧ p_in what 0 1 then (p_pow ((if what = 0 then nI (p_above w) else 36) / nI (Nat.gcd (p_above w) 36)).toInt64 (ix n), fd) else ((-1000001 : Int32).toInt64, p_find fd 0)
def p_tape (tp : Row) (t b n : Int32) : Nat → Row
  | 0 => tp
  | j + 1 => upd (p_tape tp t b n j) (ix t + j) (vp_nar .byte (b >>> ((8 * (n - 1 - nI j)) &&& 31)))
def s_feed (fd tp : Row) (t b n : Int32) : Int32 × Int32 × Row × Row := if p_in n 1 4 then (if 120 < t + n then (-1000002, t, tp, p_find fd 1) else (t + n, t + n, p_tape tp t b n (ix n), fd)) else (-1000001, t, tp, p_find fd 0)
def p_up (k : Int32) : Int32 := if k = 0 then -1 else if k = 3 then 2 else if k = 4 then 3 else if k = 6 then 1 else 0
abbrev p_under (k o : Int32) : Prop := k = o ∨ (¬ k = 0 ∧ (p_up k = o ∨ (¬ p_up k = 0 ∧ (p_up (p_up k) = o ∨ (¬ p_up (p_up k) = 0 ∧ p_up (p_up (p_up k)) = o)))))
def s_as (w fd : Row) (spot kind : Int32) : Int32 × Row := if p_in spot 0 9 ∧ p_in kind 0 6 then (if w (10 + ix spot) = -1 then (-1000006, p_find fd 5) else if p_under (w (92 + 4 * ix (w (10 + ix spot)))) kind then (w (10 + ix spot), fd) else (-1000003, p_find fd 2)) else (-1000001, p_find fd 0)
def s_count (w fd : Row) (t what : Int32) : Int32 × Row := if what = 0 then (w 0, fd) else if what = 1 then (w 1, fd) else if what = 2 then (nI (p_pop (p_set (fun k => p_has w (nI k)) (ix (w 1)))), fd) else if what = 3 then (p_sum (fun k => w (95 + 4 * k)) (ix (w 1)), fd) else if what = 4 then (p_sum (fun k => w (20 + k)) 36, fd) else if what = 5 then (t, fd) else if what = 6 then (w 2, fd) else if what = 7 then (p_holding w, fd) else (-1000001, p_find fd 0)
def p_all7 (fd : Row) : Int32 := p_sum fd 7
def s_status (fd : Row) (which : Int32) : Int32 × Row := if p_in which (-1) 6 then ((if which = -1 then p_sum fd 7 else fd (ix which)), fd) else (-1000001, p_find fd 0)
abbrev p_isSo (w : Row) (v ears : Int32) : Prop := if p_in v (-1) 8 then (if v = -1 then ¬ p_hears w else p_hears w ∧ (ears = 2 ∨ v / 3 - 1 = p_side w) ∧ (ears = 1 ∨ rm v 3 - 1 = p_high w)) else True
abbrev p_areSo (w nu : Row) (b n : Nat) (ears : Int32) : Prop := ∀ i, i < n → p_isSo (p_ticks i w) (nu (b + i)) ears
def p_fit (w nu : Row) (b n : Nat) (ears : Int32) (q many : Nat) : Nat := p_set (fun v => p_areSo (upd w q (nI v)) nu b n ears) many
def p_lack (ws : Row) (s : Int32) : Int32 := if p_in s 0 3 then (if ws (ix s) = 0 then -1000006 else 0) else -1000001
def p_lackF (ws : Row) (s ears : Int32) : Int32 := if p_lack ws s = 0 then (if p_in ears 0 2 then 0 else -1000001) else p_lack ws s
def p_fnd (fd : Row) (v : Int32) : Row := p_find fd (-1000001 - v)
def s_fits (w fd ws sz nu : Row) (s ears : Int32) : Int64 × Row := if p_lackF ws s ears = 0 then (lN (p_fit w nu (40 * ix s) (ix (sz (ix s))) ears 3 36), fd) else ((p_lackF ws s ears).toInt64, p_fnd fd (p_lackF ws s ears))
def s_headings (w fd ws sz nu : Row) (s ears : Int32) : Int32 × Row := if p_lackF ws s ears = 0 then (nI (p_pop (p_fit w nu (40 * ix s) (ix (sz (ix s))) ears 4 4)), fd) else (p_lackF ws s ears, p_fnd fd (p_lackF ws s ears))
def p_cut (v b : Int32) : Int32 := if b = 8 then vp_nar .byte v else if b = 16 then vp_nar .short v else v
def s_write (fd ws sz nu : Row) (s i v : Int32) : Int32 × Row × Row := if p_lack ws s = 0 then (if p_in i 0 (sz (ix s) - 1) then (1, upd nu (40 * ix s + ix i) (p_cut v (ws (ix s))), fd) else (-1000001, nu, p_find fd 0)) else (p_lack ws s, nu, p_fnd fd (p_lack ws s))
def p_mv (nu : Row) (a b n : Nat) : Row := fun k => if b ≤ k ∧ k < b + n then nu (a + (k - b)) else nu k
def s_copy (fd ws sz nu : Row) (s f t o n : Int32) : Int32 × Row × Row :=
  if p_in s 0 3 ∧ p_in t 0 3 then (if ws (ix s) = 0 ∨ ws (ix t) = 0 then (-1000006, nu, p_find fd 5) else if ws (ix s) = ws (ix t) then (if ¬ n < 0 ∧ ¬ f < 0 ∧ ¬ o < 0 ∧ ¬ sz (ix s) - n < f ∧ ¬ sz (ix t) - n < o then (n, p_mv nu (40 * ix s + ix f) (40 * ix t + ix o) (ix n), fd) else (-1000001, nu, p_find fd 0)) else (-1000003, nu, p_find fd 2)) else (-1000001, nu, p_find fd 0)
def p_lds (nu : Row) (b n : Nat) : Nat → Nat → Nat
  | 0, i => i
  | k + 1, i => if i < n ∧ i < 36 ∧ p_in (nu (b + i)) 0 30 then p_lds nu b n k (i + 1) else i
def p_lay (w nu : Row) (b n : Nat) : Row := fun q => if 20 ≤ q ∧ q < 20 + n then nu (b + (q - 20)) else w q
def s_load (w fd ws sz nu : Row) (s : Int32) : Int32 × Row × Row := if p_lack ws s = 0 then (nI (p_lds nu (40 * ix s) (ix (sz (ix s))) 40 0), p_lay w nu (40 * ix s) (p_lds nu (40 * ix s) (ix (sz (ix s))) 40 0), fd) else (p_lack ws s, w, p_fnd fd (p_lack ws s))
def p_rgt (w nu : Row) (b n : Nat) : Nat → Nat → Nat
  | 0, i => i
  | k + 1, i => if i < n ∧ nu (b + i) = p_ticks i w 3 then p_rgt w nu b n k (i + 1) else i
def s_judge (w fd ws sz nu : Row) (s : Int32) : Int32 × Row := if p_lack ws s = 0 then ((if p_rgt w nu (40 * ix s) (ix (sz (ix s))) 40 0 = ix (sz (ix s)) then 0 else 1 + nI (p_rgt w nu (40 * ix s) (ix (sz (ix s))) 40 0)), fd) else (p_lack ws s, p_fnd fd (p_lack ws s))
