def cn {β : Type} (r : RS × Bool) (z : β) (k : Nat → Nat → Int32 → Int32 → RS × Bool × β) : RS × Bool × β := if r.2 = true then k r.1.1 r.1.2.1 r.1.2.2.1 r.1.2.2.2 else (r.1, false, z)
theorem cn_t {β : Type} {r : RS × Bool} {z : β} {k : Nat → Nat → Int32 → Int32 → RS × Bool × β} {a b : Nat} {t v : Int32} (h : r = ((a, b, t, v), true)) : cn r z k = k a b t v := by
  subst h
  rfl
theorem cn_f {β : Type} {r : RS × Bool} {z : β} {k : Nat → Nat → Int32 → Int32 → RS × Bool × β} {s : RS} (h : r = (s, false)) : cn r z k = (s, false, z) := by
  subst h
  rfl
def cc {α β : Type} (r : RS × Bool × α) (z : α → β) (k : Nat → Nat → Int32 → Int32 → α → RS × Bool × β) : RS × Bool × β := if r.2.1 = true then k r.1.1 r.1.2.1 r.1.2.2.1 r.1.2.2.2 r.2.2 else (r.1, false, z r.2.2)
theorem cc_t {α β : Type} {r : RS × Bool × α} {z : α → β} {k : Nat → Nat → Int32 → Int32 → α → RS × Bool × β} {a b : Nat} {t v : Int32} {x : α} (h : r = ((a, b, t, v), true, x)) : cc r z k = k a b t v x := by
  subst h
  rfl
theorem cc_f {α β : Type} {r : RS × Bool × α} {z : α → β} {k : Nat → Nat → Int32 → Int32 → α → RS × Bool × β} {s : RS} {x : α} (h : r = (s, false, x)) : cc r z k = (s, false, z x) := by
  subst h
  rfl
theorem cb_ok {α β : Type} {r : RS × Bool × α} {z y : β} {k : Nat → Nat → Int32 → Int32 → α → RS × Bool × β} {s : RS} (hq : cb r z k = (s, true, y)) : ∃ a b t v x, r = ((a, b, t, v), true, x) ∧ k a b t v x = (s, true, y) := by
  obtain ⟨⟨a, b, t, v⟩, ok, x⟩ := r
  cases ok
  · exact absurd (show false = true from congrArg (fun z => z.2.1) ((cb_f rfl).symm.trans hq)) (by decide)
  · exact ⟨a, b, t, v, x, rfl, hq⟩
theorem cn_ok {β : Type} {r : RS × Bool} {z y : β} {k : Nat → Nat → Int32 → Int32 → RS × Bool × β} {s : RS} (hq : cn r z k = (s, true, y)) : ∃ a b t v, r = ((a, b, t, v), true) ∧ k a b t v = (s, true, y) := by
  obtain ⟨⟨a, b, t, v⟩, ok⟩ := r
  cases ok
  · exact absurd (show false = true from congrArg (fun z => z.2.1) ((cn_f rfl).symm.trans hq)) (by decide)
  · exact ⟨a, b, t, v, rfl, hq⟩
theorem cc_ok {α β : Type} {r : RS × Bool × α} {z : α → β} {y : β} {k : Nat → Nat → Int32 → Int32 → α → RS × Bool × β} {s : RS} (hq : cc r z k = (s, true, y)) : ∃ a b t v x, r = ((a, b, t, v), true, x) ∧ k a b t v x = (s, true, y) := by
  obtain ⟨⟨a, b, t, v⟩, ok, x⟩ := r
  cases ok
  · exact absurd (show false = true from congrArg (fun z => z.2.1) ((cc_f rfl).symm.trans hq)) (by decide)
  · exact ⟨a, b, t, v, x, rfl, hq⟩
def c_loop (tp : Row) (L : Nat) : Nat → Int32 → Nat → Nat → Int32 → Int32 → Row → RS × Bool × Int32 × Row
  | 0, _, a, b, t, v, to => ((a, b, t, v), false, 0, to)
  | f + 1, n, a, b, t, v, to => if t = 3 then cn (c_next tp L a t v) (0, to) (fun a b t v => cc (c_item tp L a b t v to) (fun to => (0, to)) (fun a b t v to => c_loop tp L f (n + 1) a b t v to)) else if t = 0 then ((a, b, t, v), true, n, to) else ((a, b, t, v), false, 0, to)
theorem lop_3 {tp to : Row} {L f a b : Nat} {n t v : Int32} (h : t = 3) : c_loop tp L (f + 1) n a b t v to = cn (c_next tp L a t v) (0, to) (fun a b t v => cc (c_item tp L a b t v to) (fun to => (0, to)) (fun a b t v to => c_loop tp L f (n + 1) a b t v to)) := if_pos h
theorem lop_0 {tp to : Row} {L f a b : Nat} {n t v : Int32} (h : ¬ t = 3) (h0 : t = 0) : c_loop tp L (f + 1) n a b t v to = ((a, b, t, v), true, n, to) := (if_neg h).trans (if_pos h0)
theorem lop_x {tp to : Row} {L f a b : Nat} {n t v : Int32} (h : ¬ t = 3) (h0 : ¬ t = 0) : c_loop tp L (f + 1) n a b t v to = ((a, b, t, v), false, 0, to) := (if_neg h).trans (if_neg h0)
def c_whole (tp : Row) (L : Nat) (t v : Int32) (to : Row) : RS × Bool × Int32 × Row :=
  cn (c_next tp L 0 t v) (0, to) (fun a b t v => cc (c_item tp L a b t v to) (fun to => (0, to)) (fun a b t v to => c_loop tp L 121 1 a b t v to))
def Gd (L a : Nat) (s : RS) : Prop := a ≤ s.1 ∧ s.1 ≤ L ∧ s.2.1 ≤ L
theorem Gd.tr {L a : Nat} {s s' : RS} (h : Gd L a s) (h' : Gd L s.1 s') : Gd L a s' := ⟨Nat.le_trans h.1 h'.1, h'.2⟩
theorem Gd.rf {L a b : Nat} {t v : Int32} (ha : a ≤ L) (hb : b ≤ L) : Gd L a (a, b, t, v) := ⟨Nat.le_refl _, ha, hb⟩
theorem blk_M {tp : Row} {L : Nat} : ∀ f k, k ≤ p_blk tp L f k
  | 0, k => Nat.le_refl _
  | f + 1, k => by
    show k ≤ (if p_byte tp L k = 32 then _ else _)
    split
    · exact Nat.le_trans (Nat.le_succ k) (blk_M f (k + 1))
    · exact Nat.le_refl _
theorem let_M {tp : Row} {L : Nat} : ∀ f k, k ≤ p_let tp L f k
  | 0, k => Nat.le_refl _
  | f + 1, k => by
    show k ≤ (if isLt (p_byte tp L k) then _ else _)
    split
    · exact Nat.le_trans (Nat.le_succ k) (let_M f (k + 1))
    · exact Nat.le_refl _
theorem dig_M {tp : Row} {L : Nat} : ∀ f k v, k ≤ (p_dig tp L f k v).1
  | 0, k, v => Nat.le_refl _
  | f + 1, k, v => by
    by_cases c : isDg (p_byte tp L k)
    · rw [dig_t c]
      exact Nat.le_trans (Nat.le_succ k) (dig_M f (k + 1) _)
    · rw [dig_f c]
      exact Nat.le_refl _
theorem tok_M {tp : Row} {L i : Nat} {t v : Int32} : i ≤ (p_tok tp L i t v).1 := by
  unfold p_tok
  split
  · exact Nat.le_refl _
  · split
    · split <;> exact let_M _ _
    · split
      · split <;> exact dig_M _ _ _
      · split
        · exact Nat.le_succ i
        · exact Nat.le_refl _
theorem tok_S {tp : Row} {L i : Nat} {t v : Int32} (hi : i ≤ 120) (h1 : (p_tok tp L i t v).2.2.2 = true) (h0 : ¬ (p_tok tp L i t v).2.1 = 0) : i < (p_tok tp L i t v).1 := by
  obtain ⟨f, hf⟩ : ∃ f, 121 - i = f + 1 := ⟨120 - i, by omega⟩
  unfold p_tok at h1 h0 ⊢
  rw [hf] at h1 h0 ⊢
  split
  · rename_i c
    rw [if_pos c] at h0
    exact absurd rfl h0
  · rename_i c
    rw [if_neg c] at h1 h0
    split
    · rename_i cl
      split <;> (rw [let_t cl]; exact let_M f (i + 1))
    · rename_i cl
      rw [if_neg cl] at h1 h0
      split
      · rename_i cd
        split <;> (rw [dig_t cd]; exact dig_M f (i + 1) _)
      · rename_i cd
        rw [if_neg cd] at h1 h0
        split
        · exact Nat.lt_succ_self i
        · rename_i cs
          rw [if_neg cs] at h1
          exact absurd (show false = true from h1) (by decide)
theorem tok_2 {tp : Row} {L i : Nat} {t v : Int32} (h1 : (p_tok tp L i t v).2.2.2 = true) (h2 : (p_tok tp L i t v).2.1 = 2) : vp_in (p_tok tp L i t v).2.2.1 18 := by
  unfold p_tok at h1 h2 ⊢
  split
  · rename_i c
    rw [if_pos c] at h2
    exact absurd (show (0 : Int32) = 2 from h2) (by decide)
  · rename_i c
    rw [if_neg c] at h1 h2
    split
    · rename_i cl
      rw [if_pos cl] at h1 h2
      split
      · rename_i cf
        exact vp_in_nI cf (by decide)
      · rename_i cf
        rw [if_neg cf] at h1
        exact absurd (show false = true from h1) (by decide)
    · rename_i cl
      rw [if_neg cl] at h1 h2
      split
      · rename_i cd
        rw [if_pos cd] at h1 h2
        split at h2 <;> exact absurd (show (1 : Int32) = 2 from h2) (by decide)
      · rename_i cd
        rw [if_neg cd] at h1 h2
        split
        · rename_i cs
          rw [if_pos cs] at h2
          exact absurd (show (3 : Int32) = 2 from h2) (by decide)
        · rename_i cs
          rw [if_neg cs] at h1
          exact absurd (show false = true from h1) (by decide)
theorem next_G {tp : Row} {L a : Nat} {t v : Int32} (ha : a ≤ L) : Gd L a (c_next tp L a t v).1 := ⟨Nat.le_trans (blk_M _ _) tok_M, tok_L (blk_L _ _ ha), blk_L _ _ ha⟩
theorem next_S {tp : Row} {L a a1 b1 : Nat} {t v t1 v1 : Int32} (hL : L ≤ 120) (ha : a ≤ L) (hq : c_next tp L a t v = ((a1, b1, t1, v1), true)) (h0 : ¬ t1 = 0) : a < a1 := by
  have e1 : (p_tok tp L (p_blk tp L (121 - a) a) t v).1 = a1 := congrArg (fun z => z.1.1) hq
  have e3 : (p_tok tp L (p_blk tp L (121 - a) a) t v).2.1 = t1 := congrArg (fun z => z.1.2.2.1) hq
  have e5 : (p_tok tp L (p_blk tp L (121 - a) a) t v).2.2.2 = true := congrArg (fun z => z.2) hq
  have hb := blk_L (tp := tp) (L := L) (121 - a) a ha
  have := tok_S (by omega) e5 (e3 ▸ h0)
  rw [e1] at this
  exact Nat.lt_of_le_of_lt (blk_M _ _) this
theorem next_2 {tp : Row} {L a a1 b1 : Nat} {t v t1 v1 : Int32} (hq : c_next tp L a t v = ((a1, b1, t1, v1), true)) (h2 : t1 = 2) : vp_in v1 18 := by
  have e3 : (p_tok tp L (p_blk tp L (121 - a) a) t v).2.1 = t1 := congrArg (fun z => z.1.2.2.1) hq
  have e4 : (p_tok tp L (p_blk tp L (121 - a) a) t v).2.2.1 = v1 := congrArg (fun z => z.1.2.2.2) hq
  have e5 : (p_tok tp L (p_blk tp L (121 - a) a) t v).2.2.2 = true := congrArg (fun z => z.2) hq
  have := tok_2 e5 (e3.trans h2)
  rw [e4] at this
  exact this
theorem num_G {tp : Row} {L a b : Nat} {lo hi t v : Int32} (ha : a ≤ L) (hb : b ≤ L) : Gd L a (c_num tp L lo hi a b t v).1 := by
  unfold c_num
  split
  · exact next_G ha
  · exact Gd.rf ha hb
theorem beh_G {tp : Row} {L a : Nat} {lo hi t v : Int32} (ha : a ≤ L) : Gd L a (c_beh tp L lo hi a t v).1 := by
  have h := next_G (tp := tp) (t := t) (v := v) ha
  unfold c_beh
  split
  · exact h.tr (num_G h.2.1 h.2.2)
  · exact h
theorem head_G {tp : Row} {L a b : Nat} {was t v : Int32} (ha : a ≤ L) (hb : b ≤ L) : Gd L a (c_head tp L was a b t v).1 := by
  unfold c_head
  split
  · exact next_G ha
  · exact Gd.rf ha hb
theorem cb_G {α β : Type} {L a : Nat} {r : RS × Bool × α} {z : β} {k : Nat → Nat → Int32 → Int32 → α → RS × Bool × β} (h : Gd L a r.1) (hk : ∀ a' b' t v x, Gd L a (a', b', t, v) → Gd L a (k a' b' t v x).1) : Gd L a (cb r z k).1 := by
  unfold cb
  split
  · exact hk _ _ _ _ _ h
  · exact h
theorem opt_G {tp to : Row} {L k a b : Nat} {wd lo hi t v : Int32} (ha : a ≤ L) (hb : b ≤ L) : Gd L a (c_opt tp L wd lo hi k to a b t v).1 := by
  unfold c_opt
  split
  · exact cb_G (beh_G ha) (fun _ _ _ _ _ h => h)
  · exact Gd.rf ha hb
theorem mouse_G {tp to : Row} {L a : Nat} {t v : Int32} (ha : a ≤ L) : Gd L a (c_mouse tp L a t v to).1 :=
  cb_G (beh_G ha) fun _ _ _ _ _ h => cb_G (h.tr (head_G h.2.1 h.2.2)) fun _ _ _ _ _ h => cb_G (h.tr (opt_G h.2.1 h.2.2)) fun _ _ _ _ _ h => h.tr (opt_G h.2.1 h.2.2)
theorem strike_G {tp to : Row} {L a b : Nat} {kind t v : Int32} (ha : a ≤ L) (hb : b ≤ L) : Gd L a (c_strike tp L kind a b t v to).1 := by
  unfold c_strike
  split
  · exact cb_G (beh_G ha) fun _ _ _ _ _ h => h.tr (opt_G h.2.1 h.2.2)
  · exact Gd.rf ha hb
theorem row_G {tp to : Row} {L base a : Nat} {most t v : Int32} (ha : a ≤ L) : Gd L a (c_row tp L base most a t v to).1 := by
  have h := beh_G (tp := tp) (lo := 0) (hi := 35) (t := t) (v := v) ha
  unfold c_row
  split
  · split <;> exact h.tr (num_G h.2.1 h.2.2)
  · exact h
theorem owl_G {tp to : Row} {L a : Nat} {t v : Int32} (ha : a ≤ L) : Gd L a (c_owl tp L a t v to).1 := by
  have h := beh_G (tp := tp) (lo := 0) (hi := 35) (t := t) (v := v) ha
  unfold c_owl
  split
  · split <;> exact h.tr (head_G h.2.1 h.2.2)
  · exact h
theorem item_G {tp to : Row} {L a b : Nat} {t v : Int32} (ha : a ≤ L) (hb : b ≤ L) : Gd L a (c_item tp L a b t v to).1 := by
  unfold c_item
  split
  · split
    · exact mouse_G ha
    · split
      · exact owl_G ha
      · split
        · exact row_G ha
        · split
          · exact row_G ha
          · exact strike_G ha hb
  · exact Gd.rf ha hb
theorem item_L {tp to to1 : Row} {L a b a1 b1 : Nat} {t v t1 v1 : Int32} {ok : Bool} (ha : a ≤ L) (hb : b ≤ L) (hq : c_item tp L a b t v to = ((a1, b1, t1, v1), ok, to1)) : a ≤ a1 ∧ a1 ≤ L ∧ b1 ≤ L := by
  have h := item_G (tp := tp) (to := to) (t := t) (v := v) ha hb
  rw [hq] at h
  exact h
theorem WF.put {w : Row} (h : WF w) {q : Nat} {x : Int32} (h1 : ¬ q = 1) (h3 : q = 3 → vp_in x 36) (h5 : q = 5 → vp_in x 10 ∧ ¬ x = 0) (h6 : q = 6 → vp_in x 10) (h8 : q = 8 → vp_in x 36) (hh : 10 ≤ q → q < 20 → x = -1 ∨ vp_in x (ix (w 1))) (hs : 20 ≤ q → q < 92 → ¬ x < 0) (hK : 92 ≤ q → q % 4 = 0 → vp_in x 7) : WF (upd w q x) := by
  obtain ⟨a3, ⟨a5, b5⟩, a6, a8, a1, ah, ak, as, an⟩ := h
  have aa : ∀ j, (j = q ∧ upd w q x j = x) ∨ (j ≠ q ∧ upd w q x j = w j) := fun j => by
    by_cases e : j = q
    · exact Or.inl ⟨e, by rw [e]; exact upd_s⟩
    · exact Or.inr ⟨e, upd_n e⟩
  have e1 : upd w q x 1 = w 1 := upd_n (by omega)
  refine ⟨?_, ⟨?_, ?_⟩, ?_, ?_, ?_, fun k hk => ?_, fun k hk => ?_, fun k hk => ?_, fun k hk => ?_⟩
  · rcases aa 3 with ⟨e, r⟩ | ⟨_, r⟩ <;> rw [r]
    · exact h3 e.symm
    · exact a3
  · rcases aa 5 with ⟨e, r⟩ | ⟨_, r⟩ <;> rw [r]
    · exact (h5 e.symm).1
    · exact a5
  · rcases aa 5 with ⟨e, r⟩ | ⟨_, r⟩ <;> rw [r]
    · exact (h5 e.symm).2
    · exact b5
  · rcases aa 6 with ⟨e, r⟩ | ⟨_, r⟩ <;> rw [r]
    · exact h6 e.symm
    · exact a6
  · rcases aa 8 with ⟨e, r⟩ | ⟨_, r⟩ <;> rw [r]
    · exact h8 e.symm
    · exact a8
  · rw [e1]
    exact a1
  · rw [e1]
    rcases aa (10 + k) with ⟨e, r⟩ | ⟨_, r⟩ <;> rw [r]
    · exact hh (by omega) (by omega)
    · exact ah k hk
  · rcases aa (92 + 4 * k) with ⟨e, r⟩ | ⟨_, r⟩ <;> rw [r]
    · exact hK (by omega) (by omega)
    · exact ak k hk
  · rcases aa (20 + k) with ⟨e, r⟩ | ⟨_, r⟩ <;> rw [r]
    · exact hs (by omega) (by omega)
    · exact as k hk
  · rcases aa (56 + k) with ⟨e, r⟩ | ⟨_, r⟩ <;> rw [r]
    · exact hs (by omega) (by omega)
    · exact an k hk
theorem WF.put1 {w : Row} (h : WF w) {x : Int32} (h9 : vp_in x 9) (hx : ix (w 1) ≤ ix x) : WF (upd w 1 x) := by
  obtain ⟨a3, ⟨a5, b5⟩, a6, a8, a1, ah, ak, as, an⟩ := h
  refine ⟨a3, ⟨a5, b5⟩, a6, a8, by rw [upd_s]; exact h9, fun k hk => ?_, fun k hk => ?_, fun k hk => ?_, fun k hk => ?_⟩
  · rw [upd_n (by omega), upd_s]
    rcases ah k hk with q | q
    · exact Or.inl q
    · exact Or.inr (vin_w q hx)
  · rw [upd_n (by omega)]; exact ak k hk
  · rw [upd_n (by omega)]; exact as k hk
  · rw [upd_n (by omega)]; exact an k hk
theorem WF.add {w : Row} (h : WF w) {kind aim : Int32} (hk : vp_in kind 7) (h8 : vp_in (w 1) 8) : WF (p_add w kind aim) := by
  obtain ⟨j, hj, e⟩ := vp_in_of h8 (by decide)
  have e2 : ix (w 1) = j := by rw [e]; exact nI_clamp (by omega)
  have e3 : w 1 + 1 = nI (j + 1) := by rw [e, nI_1]
  have e4 : ix (nI (j + 1)) = j + 1 := nI_clamp (by omega)
  unfold p_add
  rw [e2, e3]
  have s1 : WF (upd w (92 + 4 * j) kind) := h.put (by omega) (by omega) (by omega) (by omega) (by omega) (by omega) (by omega) (fun _ _ => hk)
  have s2 : WF (upd (upd w (92 + 4 * j) kind) (93 + 4 * j) aim) := s1.putS (by omega) (by omega)
  have s3 := s2.putS (q := 94 + 4 * j) (x := 0) (by omega) (by omega)
  have s4 := s3.putS (q := 95 + 4 * j) (x := 0) (by omega) (by omega)
  refine s4.put1 (vp_in_nI (by omega) (by decide)) ?_
  rw [e4, upd_n (by omega), upd_n (by omega), upd_n (by omega), upd_n (by omega), e2]
  omega
theorem opt_W {tp to to1 : Row} {L k a b : Nat} {wd lo hi t v : Int32} {s : RS} (h : WF to) (hp : ∀ x, p_in x lo hi → WF (upd to k x)) (hq : c_opt tp L wd lo hi k to a b t v = (s, true, to1)) : WF to1 := by
  unfold c_opt at hq
  split at hq
  · obtain ⟨_, _, _, _, x, e, hq⟩ := cb_ok hq
    have e5 : upd to k x = to1 := congrArg (fun z => z.2.2) hq
    exact e5 ▸ hp x (beh_in e)
  · have e5 : to = to1 := congrArg (fun z => z.2.2) hq
    exact e5 ▸ h
theorem in_ne {x hi : Int32} (h : p_in x 1 hi) : ¬ x = 0 := by
  intro z
  rw [z] at h
  exact h.1 (by decide)
theorem in_10 {x : Int32} (h : p_in x 1 9) : p_in x 0 9 := by
  refine ⟨fun z => h.1 ?_, h.2⟩
  rw [Int32.lt_iff_toInt_lt] at z ⊢
  have e0 : (0 : Int32).toInt = 0 := by decide
  have e1 : (1 : Int32).toInt = 1 := by decide
  omega
theorem mouse_W {tp to to1 : Row} {L a : Nat} {t v : Int32} {s : RS} (h : WF to) (hq : c_mouse tp L a t v to = (s, true, to1)) : WF to1 := by
  unfold c_mouse at hq
  obtain ⟨_, _, _, _, x, e1, hq⟩ := cb_ok hq
  obtain ⟨_, _, _, _, y, e2, hq⟩ := cb_ok hq
  obtain ⟨_, _, _, _, z, e3, hq⟩ := cb_ok hq
  have w1 : WF (upd to 3 x) := h.put (by decide) (fun _ => vin_of (beh_in e1) 36 (by decide)) (by omega) (by omega) (by omega) (by omega) (by omega) (by omega)
  have w2 : WF (upd (upd to 3 x) 7 0) := w1.put (by decide) (by omega) (by omega) (by omega) (by omega) (by omega) (by omega) (by omega)
  have w3 : WF (upd (upd (upd to 3 x) 7 0) 4 y) := w2.put (by decide) (by omega) (by omega) (by omega) (by omega) (by omega) (by omega) (by omega)
  have w4 : WF z := opt_W w3 (fun x hx => w3.put (by decide) (by omega) (fun _ => ⟨vin_of (in_10 hx) 10 (by decide), in_ne hx⟩) (by omega) (by omega) (by omega) (by omega) (by omega)) e3
  exact opt_W w4 (fun x hx => w4.put (by decide) (by omega) (by omega) (fun _ => vin_of hx 10 (by decide)) (by omega) (by omega) (by omega) (by omega)) hq
theorem owl_W {tp to to1 : Row} {L a : Nat} {t v : Int32} {s : RS} (h : WF to) (hq : c_owl tp L a t v to = (s, true, to1)) : WF to1 := by
  rcases e : c_beh tp L 0 35 a t v with ⟨⟨a2, b2, t2, v2⟩, ok2, x⟩
  cases ok2
  · rw [owl_f e] at hq
    exact absurd (show false = true from congrArg (fun z => z.2.1) hq) (by decide)
  · rcases e2 : c_head tp L (to 9) a2 b2 t2 v2 with ⟨⟨a3, b3, t3, v3⟩, ok3, y⟩
    cases ok3
    · rw [owl_tf e e2] at hq
      exact absurd (show false = true from congrArg (fun z => z.2.1) hq) (by decide)
    · rw [owl_tt e e2] at hq
      have e5 : upd (upd to 8 x) 9 y = to1 := congrArg (fun z => z.2.2) hq
      have w1 : WF (upd to 8 x) := h.put (by decide) (by omega) (by omega) (by omega) (fun _ => vin_of (beh_in e) 36 (by decide)) (by omega) (by omega) (by omega)
      exact e5 ▸ w1.put9
theorem row_W {tp to to1 : Row} {L base a : Nat} {most t v : Int32} {s : RS} (h : WF to) (hb : base = 20 ∨ base = 56) (hq : c_row tp L base most a t v to = (s, true, to1)) : WF to1 := by
  rcases e : c_beh tp L 0 35 a t v with ⟨⟨a2, b2, t2, v2⟩, ok2, x⟩
  cases ok2
  · rw [row_f e] at hq
    exact absurd (show false = true from congrArg (fun z => z.2.1) hq) (by decide)
  · rcases e2 : c_num tp L 0 most a2 b2 t2 v2 with ⟨⟨a3, b3, t3, v3⟩, ok3⟩
    cases ok3
    · rw [row_tf e e2] at hq
      exact absurd (show false = true from congrArg (fun z => z.2.1) hq) (by decide)
    · rw [row_tt e e2] at hq
      have e5 : upd to (base + ix x) v2 = to1 := congrArg (fun z => z.2.2) hq
      have hx := vin_lt (vin_of (beh_in e) 36 (by decide))
      have hv := (num_in e2).1
      exact e5 ▸ h.put (by omega) (by omega) (by omega) (by omega) (by omega) (by omega) (fun _ _ => hv) (by omega)
theorem strike_W {tp to to1 : Row} {L a b : Nat} {kind t v : Int32} {s : RS} (h : WF to) (hk : vp_in kind 7) (hq : c_strike tp L kind a b t v to = (s, true, to1)) : WF to1 := by
  unfold c_strike at hq
  split at hq
  · rename_i h8
    obtain ⟨_, _, _, _, x, e1, hq⟩ := cb_ok hq
    have w1 := h.add (aim := x) hk (in8 (vin_nn h.many) h8)
    exact opt_W w1 (fun y hy => w1.putS (by omega) (by omega)) hq
  · exact absurd (show false = true from congrArg (fun z => z.2.1) hq) (by decide)
theorem item_W {tp to to1 : Row} {L a b : Nat} {t v : Int32} {s : RS} (h : WF to) (h2 : t = 2 → vp_in v 18) (hq : c_item tp L a b t v to = (s, true, to1)) : WF to1 := by
  unfold c_item at hq
  split at hq
  · rename_i hc
    split at hq
    · exact mouse_W h hq
    · rename_i n7
      split at hq
      · exact owl_W h hq
      · rename_i n8
        split at hq
        · exact row_W h (Or.inl rfl) hq
        · rename_i n9
          split at hq
          · exact row_W h (Or.inr rfl) hq
          · rename_i n10
            refine strike_W h ?_ hq
            obtain ⟨j, hj, e⟩ := vp_in_of (h2 hc.1) (by decide)
            subst e
            refine vp_in_nI ?_ (by decide)
            have h10 : ¬ 10 < j := fun z => hc.2 ((lt_nI (a := 10) (b := j) (by decide) (by omega)).mpr z)
            have i7 : ¬ j = 7 := fun z => n7 (by rw [z]; rfl)
            have i8 : ¬ j = 8 := fun z => n8 (by rw [z]; rfl)
            have i9 : ¬ j = 9 := fun z => n9 (by rw [z]; rfl)
            have i10 : ¬ j = 10 := fun z => n10 (by rw [z]; rfl)
            omega
  · exact absurd (show false = true from congrArg (fun z => z.2.1) hq) (by decide)
theorem loop_W {tp : Row} {L : Nat} : ∀ f (n n1 : Int32) (a b : Nat) (t v : Int32) (to to1 : Row) (s : RS), WF to → c_loop tp L f n a b t v to = (s, true, n1, to1) → WF to1
  | 0, n, n1, a, b, t, v, to, to1, s, h, hq => absurd (show false = true from congrArg (fun z => z.2.1) hq) (by decide)
  | f + 1, n, n1, a, b, t, v, to, to1, s, h, hq => by
    by_cases h3 : t = 3
    · rw [lop_3 h3] at hq
      obtain ⟨_, _, _, _, e1, hq⟩ := cn_ok hq
      obtain ⟨_, _, _, _, x, e2, hq⟩ := cc_ok hq
      exact loop_W f _ _ _ _ _ _ _ _ _ (item_W h (next_2 e1) e2) hq
    · by_cases h0 : t = 0
      · rw [lop_0 h3 h0] at hq
        have e5 : to = to1 := congrArg (fun z => z.2.2.2) hq
        exact e5 ▸ h
      · rw [lop_x h3 h0] at hq
        exact absurd (show false = true from congrArg (fun z => z.2.1) hq) (by decide)
theorem whole_W {tp to to1 : Row} {L : Nat} {t v n1 : Int32} {s : RS} (h : WF to) (hq : c_whole tp L t v to = (s, true, n1, to1)) : WF to1 := by
  unfold c_whole at hq
  obtain ⟨_, _, _, _, e1, hq⟩ := cn_ok hq
  obtain ⟨_, _, _, _, x, e2, hq⟩ := cc_ok hq
  exact loop_W _ _ _ _ _ _ _ _ _ _ (item_W h (next_2 e1) e2) hq
