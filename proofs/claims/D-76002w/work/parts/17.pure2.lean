def p_add (w : Row) (kind aim : Int32) : Row := upd (upd (upd (upd (upd w (92 + 4 * ix (w 1)) kind) (93 + 4 * ix (w 1)) aim) (94 + 4 * ix (w 1)) 0) (95 + 4 * ix (w 1)) 0) 1 (w 1 + 1)
def p_far (w : Row) (k : Int32) : Int32 := p_apart (w (93 + 4 * ix k)) (w 8)
def p_takes (w : Row) (k : Int32) : Int32 := if w (92 + 4 * ix k) = 1 then p_far w k / 2 + 1 else if w (92 + 4 * ix k) = 2 then p_far w k + 2 else if w (92 + 4 * ix k) = 3 then p_far w k + 4 else if w (92 + 4 * ix k) = 4 then p_far w k + 4 + w (94 + 4 * ix k) else if w (92 + 4 * ix k) = 5 then 1 else if w (92 + 4 * ix k) = 6 then p_far w k / 2 + 2 else p_far w k + 1
def p_deep (w : Row) (k : Int32) : Int32 := if w (92 + 4 * ix k) = 1 then 12 else if w (92 + 4 * ix k) = 2 then 6 else if w (92 + 4 * ix k) = 3 then 6 else if w (92 + 4 * ix k) = 4 then 6 + w (94 + 4 * ix k) else if w (92 + 4 * ix k) = 5 then 0 else if w (92 + 4 * ix k) = 6 then 6 else 8
def p_wide (w : Row) (k : Int32) : Int32 := if w (92 + 4 * ix k) = 5 then 2 else if w (92 + 4 * ix k) = 2 then 1 else if w (92 + 4 * ix k) = 3 then 1 else if w (92 + 4 * ix k) = 4 then 1 else 0
abbrev p_hits (w : Row) (k : Int32) : Prop := ¬ p_wide w k < p_apart (w (93 + 4 * ix k)) (w 3) ∧ ¬ p_deep w k < w (20 + ix (w 3))
abbrev p_has (w : Row) (k : Int32) : Prop := p_hits (p_ticks (ix (p_takes w k)) w) k
def p_orr (f : Nat → Int32) : Nat → Int32
  | 0 => 0
  | n + 1 => p_orr f n ||| f n
def p_orl (f : Nat → Int64) : Nat → Int64
  | 0 => 0
  | n + 1 => p_orl f n ||| f n
def p_having (w : Row) : Int32 := p_orr (fun k => if p_has w (nI k) then 1 <<< (nI k &&& 31) else 0) (ix (w 1))
def p_find (fd : Row) (k : Int32) : Row := upd fd (ix k) (fd (ix k) + 1)
theorem i_p1m1 (x : Int32) : x + 1 - 1 = x := by
  apply Int32.toBitVec_inj.mp
  rw [Int32.toBitVec_sub, Int32.toBitVec_add]
  exact BitVec.add_sub_cancel _ _
def s_cell (w fd : Row) (c what v : Int32) : Int32 × Row × Row := if p_in c 0 35 ∧ p_in what 0 1 ∧ p_in v 0 (if what = 0 then 30 else 99) then (if what = 0 then (w (20 + ix c), upd w (20 + ix c) v, fd) else (w (56 + ix c), upd w (56 + ix c) v, fd)) else (-1000001, w, p_find fd 0)
def s_cellOf (w fd : Row) (c what : Int32) : Int32 × Row := if p_in c 0 35 then (if what = 0 then (w (20 + ix c), fd) else if what = 1 then (w (56 + ix c), fd) else if what = 2 then (p_loudAt w c, fd) else (-1000001, p_find fd 0)) else (-1000001, p_find fd 0)
abbrev p_okMouse (w : Row) (what v : Int32) : Prop := if what = 0 then p_in v 0 35 else if what = 1 then p_in v 0 3 else if what = 2 then p_in v 1 9 ∧ w 7 < v + w 6 else if what = 3 then p_in v 0 9 ∧ w 7 < v + w 5 else if what = 4 then p_in v 0 (w 5 + w 6 - 1) else False
def s_mouse (w fd : Row) (what v : Int32) : Int32 × Row × Row := if p_okMouse w what v then (w (3 + ix what), upd w (3 + ix what) v, fd) else (-1000001, w, p_find fd 0)
def s_owl (w fd : Row) (what v : Int32) : Int32 × Row × Row := if (what = 0 ∧ p_in v 0 35) ∨ (what = 1 ∧ p_in v 0 3) then (w (8 + ix what), upd w (8 + ix what) v, fd) else (-1000001, w, p_find fd 0)
def s_told (w fd : Row) (what : Int32) : Int32 × Row := if p_in what 0 4 then (w (3 + ix what), fd) else if what = 5 then (b2i (p_run w), fd) else if what = 6 then (p_loud w, fd) else if what = 10 then (w 8, fd) else if what = 11 then (w 9, fd) else (-1000001, p_find fd 0)
def s_strike (w fd : Row) (kind aim : Int32) : Int32 × Row × Row := if p_in kind 0 6 ∧ p_in aim 0 35 then (if w 1 = 8 then (-1000002, w, p_find fd 1) else (w 1, p_add w kind aim, fd)) else (-1000001, w, p_find fd 0)
theorem okMouse_in {w : Row} {what v : Int32} (h : p_okMouse w what v) : vp_in what 5 := by
  unfold p_okMouse at h
  split at h
  · rename_i q; rw [q]; exact vin_b rfl
  · split at h
    · rename_i q; rw [q]; exact vin_b rfl
    · split at h
      · rename_i q; rw [q]; exact vin_b rfl
      · split at h
        · rename_i q; rw [q]; exact vin_b rfl
        · split at h
          · rename_i q; rw [q]; exact vin_b rfl
          · exact h.elim
theorem many_lt {w : Row} (h : WF w) (hn : ¬ w 1 = 8) : vp_in (w 1) 8 := by
  obtain ⟨j, hj, e⟩ := vp_in_of h.many (by decide)
  rw [e] at hn ⊢
  refine vp_in_nI ?_ (by decide)
  rcases Nat.lt_or_ge j 8 with q | q
  · exact q
  · have : j = 8 := by omega
    subst this
    exact absurd rfl hn
theorem p_add_1 (w : Row) (a b : Int32) : p_add w a b 1 = w 1 + 1 := upd_s
theorem strike_in {w : Row} {k : Int32} (hw : WF w) (h : p_in k 0 (w 1 - 1)) : vp_in k (ix (w 1)) := by
  obtain ⟨j, hj, e⟩ := vp_in_of hw.many (by decide)
  have e2 : ix (w 1) = j := by rw [e]; exact nI_clamp (by omega)
  rw [e2]
  have h1 := Int32.not_lt.mp h.1
  have h2 := Int32.not_lt.mp h.2
  rw [Int32.le_iff_toInt_le] at h1 h2
  rw [vp_in_iff]
  have z : (0 : Int32).toInt = 0 := rfl
  have q : (w 1 - 1).toInt = (j : Int) - 1 := by
    rw [e]
    exact pk_sub_toInt (a := j) (b := 1) (by omega) (by decide)
  omega
theorem kin_of {w : Row} {k : Int32} (hw : WF w) (h : p_in k 0 (w 1 - 1)) : vp_in k 8 := vin_w (strike_in hw h) (Nat.lt_succ_iff.mp (vin_lt hw.many))
abbrev p_okTold (what v : Int32) : Prop := if what = 0 then p_in v 0 6 else if what = 1 then p_in v 0 35 else if what = 2 then p_in v 0 9 else if what = 3 then p_in v 0 999 else False
theorem okTold_cases {what v : Int32} (h : p_okTold what v) : what = 0 ∨ what = 1 ∨ what = 2 ∨ what = 3 := by grind
def s_change (w fd : Row) (k what v : Int32) : Int32 × Row × Row := if p_in k 0 (w 1 - 1) ∧ p_okTold what v then (w (92 + ix what + 4 * ix k), upd w (92 + ix what + 4 * ix k) v, fd) else (-1000001, w, p_find fd 0)
def s_made (w : Row) (k : Int32) : Int32 × Row := if p_hits (p_ticks (ix (p_takes w k)) w) k then (1, upd (upd (upd (p_ticks (ix (p_takes w k)) w) (95 + 4 * ix k) (mn 999 (p_ticks (ix (p_takes w k)) w (95 + 4 * ix k) + 1))) 3 (35 - p_ticks (ix (p_takes w k)) w 3)) 7 0) else (0, p_ticks (ix (p_takes w k)) w)
def s_strikes (w fd : Row) (k : Int32) : Int32 × Row × Row := if p_in k 0 (w 1 - 1) then (if 99999 < w 0 + p_takes w k then (-1000005, w, p_find fd 4) else ((s_made w k).1, (s_made w k).2, fd)) else (-1000001, w, p_find fd 0)
def s_go (w fd : Row) (n : Int32) : Int32 × Row × Row := if p_in n 1 60 then (if 99999 < w 0 + n then (-1000005, w, p_find fd 4) else (p_ticks (ix n) w 3, p_ticks (ix n) w, fd)) else (-1000001, w, p_find fd 0)
def s_now (w fd : Row) (what : Int32) : Int32 × Row := if what = 0 then (w 0, fd) else if what = 1 then (b2i (p_hears w), fd) else if what = 2 then (p_having w, fd) else if what = 3 then (p_sum (fun k => w (95 + 4 * k)) (ix (w 1)), fd) else if what = 4 then (p_sum (fun k => w (20 + k)) 36, fd) else if what = 5 then (p_apart (w 8) (w 3), fd) else (-1000001, p_find fd 0)
def s_ear (w fd : Row) (what : Int32) : Int32 × Row := if p_in what 0 1 then (if p_hears w then (if what = 0 then (p_side w, fd) else (p_high w, fd)) else (-1000004, p_find fd 3)) else (-1000001, p_find fd 0)
def s_where (w fd : Row) (n : Int32) : Int32 × Row := if p_in n 0 200 then (p_ticks (ix n) w 3, fd) else (-1000001, p_find fd 0)
def p_heard (w : Row) (n : Nat) : Int32 := p_sum (fun i => if p_hears (p_ticks i w) then 1 else 0) n
def s_heard (w fd : Row) (n : Int32) : Int32 × Row := if p_in n 0 200 then (p_heard w (ix n), fd) else (-1000001, p_find fd 0)
def p_fst (c : Nat → Prop) [DecidablePred c] : Nat → Nat → Int32
  | 0, _ => -1
  | k + 1, i => if c i then nI i else p_fst c k (i + 1)
theorem p_fst_t {c : Nat → Prop} [DecidablePred c] {k i : Nat} (h : c i) : p_fst c (k + 1) i = nI i := if_pos h
theorem p_fst_f {c : Nat → Prop} [DecidablePred c] {k i : Nat} (h : ¬ c i) : p_fst c (k + 1) i = p_fst c k (i + 1) := if_neg h
def p_till (w : Row) (cell : Int32) : Int32 := p_fst (fun i => p_ticks i w 3 = cell) 201 0
def p_rustle (w : Row) : Int32 := p_fst (fun i => p_hears (p_ticks i w)) 201 0
def p_soon (w : Row) (k : Int32) : Int32 := p_fst (fun i => p_has (p_ticks i w) k) 201 0
def p_none (fd : Row) (v : Int32) : Int32 × Row := if v = -1 then (-1000004, p_find fd 3) else (v, fd)
def s_when (w fd : Row) (cell : Int32) : Int32 × Row := if p_in cell 0 35 then p_none fd (p_till w cell) else (-1000001, p_find fd 0)
def s_rustle (w fd : Row) : Int32 × Row := p_none fd (p_rustle w)
def s_soonest (w fd : Row) (k : Int32) : Int32 × Row := if p_in k 0 (w 1 - 1) then p_none fd (p_soon w k) else (-1000001, p_find fd 0)
def p_cells (w : Row) : Nat → Int64
  | 0 => 1 <<< ((w 3).toInt64 &&& 63)
  | n + 1 => p_cells w n ||| 1 <<< ((p_ticks (n + 1) w 3).toInt64 &&& 63)
def s_run (w fd : Row) (n : Int32) : Int64 × Row := if p_in n 0 200 then (p_cells w (ix n), fd) else ((-1000001 : Int32).toInt64, p_find fd 0)
def p_chances (w : Row) (k : Int32) (n : Nat) : Int32 := p_sum (fun i => if p_has (p_ticks i w) k then 1 else 0) n
def s_chances (w fd : Row) (k n : Int32) : Int32 × Row := if p_in k 0 (w 1 - 1) ∧ p_in n 0 200 then (p_chances w k (ix n), fd) else (-1000001, p_find fd 0)
theorem ix_0 : ix 0 = 0 := by decide
theorem ix_1 : ix 1 = 1 := by decide
theorem ix_2 : ix 2 = 2 := by decide
theorem ix_3 : ix 3 = 3 := by decide
theorem t2_1 {A B : Type} {x : A × B} {a : A} {b : B} (h : x = (a, b)) : x.1 = a := by rw [h]
theorem t2_2 {A B : Type} {x : A × B} {a : A} {b : B} (h : x = (a, b)) : x.2 = b := by rw [h]
theorem t3_1 {A B C : Type} {x : A × B × C} {a : A} {b : B} {c : C} (h : x = (a, b, c)) : x.1 = a := by rw [h]
theorem t3_2 {A B C : Type} {x : A × B × C} {a : A} {b : B} {c : C} (h : x = (a, b, c)) : x.2.1 = b := by rw [h]
theorem t3_3 {A B C : Type} {x : A × B × C} {a : A} {b : B} {c : C} (h : x = (a, b, c)) : x.2.2 = c := by rw [h]
theorem t4_1 {A B C D : Type} {x : A × B × C × D} {a : A} {b : B} {c : C} {d : D} (h : x = (a, b, c, d)) : x.1 = a := by rw [h]
theorem t4_2 {A B C D : Type} {x : A × B × C × D} {a : A} {b : B} {c : C} {d : D} (h : x = (a, b, c, d)) : x.2.1 = b := by rw [h]
theorem t4_3 {A B C D : Type} {x : A × B × C × D} {a : A} {b : B} {c : C} {d : D} (h : x = (a, b, c, d)) : x.2.2.1 = c := by rw [h]
theorem t4_4 {A B C D : Type} {x : A × B × C × D} {a : A} {b : B} {c : C} {d : D} (h : x = (a, b, c, d)) : x.2.2.2 = d := by rw [h]
def p_bst (f : Nat → Int32) (b0 : Int32) : Nat → Int32 × Int32
  | 0 => (b0, -1)
  | n + 1 => (if (p_bst f b0 n).2 < f n then nI n else (p_bst f b0 n).1, mx (p_bst f b0 n).2 (f n))
def p_best (w : Row) (n : Int32) : Int32 := (p_bst (fun k => p_chances w (nI k) (ix n)) (-1) (ix (w 1))).1
def s_best (w fd : Row) (n : Int32) : Int32 × Row := if p_in n 0 100 then p_none fd (p_best w n) else (-1000001, p_find fd 0)
def p_runs (w : Row) (n : Nat) : Int32 := p_sum (fun i => if rm (nI i) (w 5 + w 6) < w 5 then 1 else 0) n
abbrev p_okTicks (n k : Int32) : Prop := p_in n 1 60 ∧ p_in k 0 n
theorem upd_id (w : Row) (q : Nat) : w = upd w q (w q) := by
  funext j
  by_cases h : j = q
  · subst h; exact upd_s.symm
  · exact (upd_n h).symm
theorem upd_uu (w : Row) (q : Nat) (x y : Int32) : upd (upd w q x) q y = upd w q y := by
  funext j
  by_cases h : j = q
  · subst h; rw [upd_s, upd_s]
  · rw [upd_n h, upd_n h, upd_n h]
theorem upd_back (w : Row) (q : Nat) (x : Int32) : upd (upd w q x) q (w q) = w := by rw [upd_uu, ← upd_id]
def p_owl (w : Row) (q : Nat) (many : Nat) (n : Int32) : Int32 := (p_bst (fun v => p_heard (upd w q (nI v)) (ix n)) 0 many).1
def s_post (w fd : Row) (n : Int32) : Int32 × Row := if p_in n 0 100 then (p_owl w 8 36 n, fd) else (-1000001, p_find fd 0)
def s_face (w fd : Row) (n : Int32) : Int32 × Row := if p_in n 0 100 then (p_owl w 9 4 n, fd) else (-1000001, p_find fd 0)
theorem WF.put8 {w : Row} (h : WF w) {v : Nat} (hv : v < 36) : WF (upd w 8 (nI v)) := by
  obtain ⟨a3, ⟨a5, b5⟩, a6, a8, a1, ah, ak, as, an⟩ := h
  refine ⟨a3, ⟨a5, b5⟩, a6, vp_in_nI hv (by decide), a1, fun k hk => ?_, fun k hk => ?_, fun k hk => ?_, fun k hk => ?_⟩
  · rw [upd_n (by omega), upd_n (by omega)]; exact ah k hk
  · rw [upd_n (by omega)]; exact ak k hk
  · rw [upd_n (by omega)]; exact as k hk
  · rw [upd_n (by omega)]; exact an k hk
theorem WF.put9 {w : Row} (h : WF w) {x : Int32} : WF (upd w 9 x) := by
  obtain ⟨a3, ⟨a5, b5⟩, a6, a8, a1, ah, ak, as, an⟩ := h
  refine ⟨a3, ⟨a5, b5⟩, a6, a8, a1, fun k hk => ?_, fun k hk => ?_, fun k hk => ?_, fun k hk => ?_⟩
  · rw [upd_n (by omega), upd_n (by omega)]; exact ah k hk
  · rw [upd_n (by omega)]; exact ak k hk
  · rw [upd_n (by omega)]; exact as k hk
  · rw [upd_n (by omega)]; exact an k hk
def p_all (w : Row) (k : Int32) (q many : Nat) : Int64 := p_orl (fun v => if p_has (upd w q (nI v)) k then 1 <<< ((nI v).toInt64 &&& 63) else 0) many
def s_aims (w fd : Row) (k : Int32) : Int64 × Row := if p_in k 0 (w 1 - 1) then (p_all w k (93 + 4 * ix k) 36, fd) else ((-1000001 : Int32).toInt64, p_find fd 0)
def s_kinds (w fd : Row) (k : Int32) : Int32 × Row := if p_in k 0 (w 1 - 1) then ((p_all w k (92 + 4 * ix k) 7).toInt32, fd) else (-1000001, p_find fd 0)
theorem WF.put92 {w : Row} (h : WF w) {k v : Nat} (hv : v < 7) : WF (upd w (92 + 4 * k) (nI v)) := by
  obtain ⟨a3, ⟨a5, b5⟩, a6, a8, a1, ah, ak, as, an⟩ := h
  refine ⟨by rw [upd_n (by omega)]; exact a3, ⟨by rw [upd_n (by omega)]; exact a5, by rw [upd_n (by omega)]; exact b5⟩, by rw [upd_n (by omega)]; exact a6, by rw [upd_n (by omega)]; exact a8, by rw [upd_n (by omega)]; exact a1, fun j hj => ?_, fun j hj => ?_, fun j hj => ?_, fun j hj => ?_⟩
  · rw [upd_n (by omega), upd_n (by omega)]; exact ah j hj
  · by_cases e : j = k
    · subst e; rw [upd_s]; exact vp_in_nI hv (by decide)
    · rw [upd_n (by omega)]; exact ak j hj
  · rw [upd_n (by omega)]; exact as j hj
  · rw [upd_n (by omega)]; exact an j hj
theorem WF.putS {w : Row} (h : WF w) {q : Nat} {x : Int32} (hq : 92 ≤ q) (hm : ¬ q % 4 = 0) : WF (upd w q x) := by
  obtain ⟨a3, ⟨a5, b5⟩, a6, a8, a1, ah, ak, as, an⟩ := h
  refine ⟨by rw [upd_n (by omega)]; exact a3, ⟨by rw [upd_n (by omega)]; exact a5, by rw [upd_n (by omega)]; exact b5⟩, by rw [upd_n (by omega)]; exact a6, by rw [upd_n (by omega)]; exact a8, by rw [upd_n (by omega)]; exact a1, fun j hj => ?_, fun j hj => ?_, fun j hj => ?_, fun j hj => ?_⟩
  · rw [upd_n (by omega), upd_n (by omega)]; exact ah j hj
  · rw [upd_n (by omega)]; exact ak j hj
  · rw [upd_n (by omega)]; exact as j hj
  · rw [upd_n (by omega)]; exact an j hj
def s_hold (w fd : Row) (spot k : Int32) : Int32 × Row × Row := if p_in spot 0 9 ∧ (k = -1 ∨ p_in k 0 (w 1 - 1)) then (1, upd w (10 + ix spot) k, fd) else (-1000001, w, p_find fd 0)
def p_holding (w : Row) : Int32 := p_sum (fun k => b2i (¬ w (10 + k) = -1)) 10
def s_undo (w fd kp sc : Row) : Int32 × Row × Row := if sc 1 = 0 then (-1000004, w, p_find fd 3) else (kp 0, kp, fd)
