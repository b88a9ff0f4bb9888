abbrev MSt : Type := Nat × Nat × Int32 × Int32 × Int32
abbrev MSt.bg (S : MSt) : Nat := S.1
abbrev MSt.en (S : MSt) : Nat := S.2.1
abbrev MSt.so (S : MSt) : Int32 := S.2.2.1
abbrev MSt.va (S : MSt) : Int32 := S.2.2.2.1
abbrev MSt.wr (S : MSt) : Int32 := S.2.2.2.2
def md (sc : Row) (L : Nat) (S : MSt) (im : Nat) (sn : Int32) : Row := fun j => match j with
  | 3 => nI L
  | 4 => nI S.bg
  | 5 => nI S.en
  | 6 => S.so
  | 7 => S.va
  | 8 => S.wr
  | 9 => nI im
  | 10 => sn
  | j => sc j
theorem ms_md {G : Gm} {d kp as bf sc fd tp it ws sz nu mv : Row} {L L' im im' : Nat} {S S' : MSt} {sn sn' : Int32} : ups (mF G) (mct G (mpg d kp as bf (md sc L S im sn) fd tp it ws sz nu mv)) (mct G (mpg d kp as bf (md sc L' S' im' sn') fd tp it ws sz nu mv)) 0 0 (.inr (0, [.ref (G.ad 0 1), .ref (G.ad 0 2), .ref (G.ad 0 3), .ref (G.ad 0 4), .int (sc 0), .ref (G.ad 0 5), .int (sc 1), .int (sc 2), .ref (G.ad 0 6), .int (nI L'), .int (nI S'.bg), .int (nI S'.en), .int S'.so, .int S'.va, .int S'.wr, .ref (G.ad 0 7), .ref (G.ad 0 8), .ref (G.ad 0 9), .int (nI im'), .int sn', .ref (G.ad 0 10), .ref (G.ad 0 11), .ref (G.ad 0 12), .ref (G.ad 0 13)])) := mu mp0 (fun _ _ h => h)
theorem xs_ldcw {p : Program} {l : Launch} {e : Env} {R : Room} {s : State} {m : MethodId} {args : Array Value} {below : List Frame} {meth : Method} {c : Code} {T : State} {locs : List Loc} {cells slots : Nat}
    (X : Stand p l e R s m args below meth c T locs cells slots) (hexec : p.tables.exec = Jvm.exec) {own text : String} {index : Nat} {a : Addr} (hown : s.vm.findClass own = some m.cls)
    (hconst : (Cond.stringRef own index text).before args s = true) (hev : (Term.string own index).eval args s none [] s = some (.ref a)) {g : JFrame} (hg : g.method = m) (hdg : decode c.code g.pc = .ok (.ldc_w index, 3)) :
    ∀ target, Steps p.tables e below (T.setTop { g with pc := g.pc + 3, stack := .ref a :: g.stack }) target → Steps p.tables e below (T.setTop g) target := by
  obtain ⟨k, cf, i, a', hk, hcf, hcp, -, hr, hev'⟩ := Cond.stringRef_spec hown hconst
  cases hev.symm.trans hev'
  obtain ⟨k', hk', he⟩ := X.warmed.alike.2.2 _ _ hk
  have hr' : k'.resolved[index]? = some (some (.string a)) := by
    rcases X.warmed.entry hk hk' index with h | ⟨h, -⟩
    · rw [h]; exact hr
    · rw [hr] at h; cases h
  intro target hrest
  subst hg
  jvm_step X.here [hexec, hdg, ldc_w.wp_string (e := e) (s := T) (f := g) X.here.top hk' (by rw [he]; exact hcf) hcp hr']
  exact hrest
theorem va_ldcwS {p : Program} {l : Launch} {e : Env} {R : Room} {s : State} {m : MethodId} {args : Array Value} {below : List Frame} {meth : Method} {c : Code} {H : Heap} {locs : List Loc} {cells slots : Nat} {Q : State → Prop} {cc : ByteArray} {pc : Nat} {ls : Array Slot} {rest : List Value} (hexec : p.tables.exec = Jvm.exec) (hb : c.code = cc) {own tx : String} {index q : Nat} (hown : s.vm.findClass own = some m.cls) (hZ : vk_R own index tx q s) (hdg : decode cc pc = .ok (.ldc_w index, 3))
    (k : W p l e R s m args below meth c H locs cells slots Q (F0 m (pc + 3) ls (.ref q :: rest))) : W p l e R s m args below meth c H locs cells slots Q (F0 m pc ls rest) := by
  intro T hT X
  obtain ⟨t, a1, b1⟩ := k T hT X
  exact ⟨t, xs_ldcw X hexec hown (text := tx) (a := q) hZ.1 hZ.2 (g := F0 m pc ls rest) rfl (by rw [hb]; exact hdg) t a1, b1⟩
def p_dgm (tp : Row) (L : Nat) : Nat → Nat → Int32 → Nat × Int32
  | 0, k, v => (k, v)
  | f + 1, k, v => if isDg (p_byte tp L k) then p_dgm tp L f (k + 1) (mn 1000 (10 * v + p_byte tp L k - 48)) else (k, v)
theorem dgm_t {tp : Row} {L f k : Nat} {v : Int32} (h : isDg (p_byte tp L k)) : p_dgm tp L (f + 1) k v = p_dgm tp L f (k + 1) (mn 1000 (10 * v + p_byte tp L k - 48)) := if_pos h
theorem dgm_f {tp : Row} {L f k : Nat} {v : Int32} (h : ¬ isDg (p_byte tp L k)) : p_dgm tp L (f + 1) k v = (k, v) := if_neg h
def n_tok (tp : Row) (L i : Nat) (wr : Int32) : MSt :=
  if p_byte tp L i < 0 then ⟨i, i, 0, 0, wr⟩
  else if isLt (p_byte tp L i) then ⟨i, p_let tp L (121 - i) i, 1, 0, wr⟩
  else if isDg (p_byte tp L i) then ⟨i, (p_dgm tp L (121 - i) i 0).1, 2, (p_dgm tp L (121 - i) i 0).2, wr⟩
  else ⟨i, i + 1, 3, 0, wr⟩
def n_next (tp : Row) (L : Nat) (S : MSt) : MSt := n_tok tp L (p_blk tp L (121 - S.en) S.en) S.wr
def SI (L : Nat) (S : MSt) : Prop := S.bg ≤ S.en ∧ S.en ≤ L ∧ (S.so = 0 ∨ S.bg < S.en)
theorem dgm_M {tp : Row} {L : Nat} : ∀ f k v, k ≤ (p_dgm tp L f k v).1
  | 0, k, v => Nat.le_refl _
  | f + 1, k, v => by
    by_cases c : isDg (p_byte tp L k)
    · rw [dgm_t c]
      exact Nat.le_trans (Nat.le_succ k) (dgm_M f (k + 1) _)
    · rw [dgm_f c]
      exact Nat.le_refl _
theorem dgm_L {tp : Row} {L : Nat} : ∀ f k v, k ≤ L → (p_dgm tp L f k v).1 ≤ L
  | 0, k, v, h => h
  | f + 1, k, v, h => by
    by_cases c : isDg (p_byte tp L k)
    · have := byte_in (tp := tp) (L := L) (k := k) (in_nn c (by decide))
      rw [dgm_t c]
      exact dgm_L f (k + 1) _ (by omega)
    · rw [dgm_f c]
      exact h
theorem ntok_I {tp : Row} {L i : Nat} {wr : Int32} (hL : L ≤ 120) (h : i ≤ L) : SI L (n_tok tp L i wr) := by
  obtain ⟨f, hf⟩ : ∃ f, 121 - i = f + 1 := ⟨120 - i, by omega⟩
  unfold n_tok
  rw [hf]
  split
  · exact ⟨Nat.le_refl _, h, Or.inl rfl⟩
  · rename_i c
    have hi := byte_in c
    split
    · rename_i cl
      exact ⟨let_M _ _, let_L _ _ h, Or.inr (by rw [let_t cl]; exact let_M f (i + 1))⟩
    · split
      · rename_i cd
        exact ⟨dgm_M _ _ _, dgm_L _ _ _ h, Or.inr (by rw [dgm_t cd]; exact dgm_M f (i + 1) _)⟩
      · exact ⟨Nat.le_succ i, hi, Or.inr (Nat.lt_succ_self i)⟩
theorem nnext_I {tp : Row} {L : Nat} {S : MSt} (hL : L ≤ 120) (h : S.en ≤ L) : SI L (n_next tp L S) := ntok_I hL (blk_L _ _ h)
abbrev p_wd (tp : Row) (i : Nat) (S : MSt) : Prop := S.so = 1 ∧ S.en = S.bg + slen.getD i 0 ∧ ∀ k, k < slen.getD i 0 → mt tp (S.bg + k) = p_chr i k
def n_must (P : Prop) [Decidable P] (tp : Row) (L : Nat) (S : MSt) : MSt := if S.wr = 0 ∧ P then n_next tp L S else (S.bg, S.en, S.so, S.va, 1)
theorem must_t {P : Prop} [Decidable P] {tp : Row} {L : Nat} {S : MSt} (h : P) : n_must P tp L S = n_must True tp L S := by
  unfold n_must
  by_cases c : S.wr = 0
  · rw [if_pos ⟨c, h⟩, if_pos ⟨c, trivial⟩]
  · rw [if_neg (fun z => c z.1), if_neg (fun z => c z.1)]
theorem must_f {P : Prop} [Decidable P] {tp : Row} {L : Nat} {S : MSt} (h : ¬ P) : n_must P tp L S = n_must False tp L S := by
  unfold n_must
  rw [if_neg (fun z => h z.2), if_neg (fun z => z.2)]
theorem nmust_I {P : Prop} [Decidable P] {tp : Row} {L : Nat} {S : MSt} (hL : L ≤ 120) (h : SI L S) : SI L (n_must P tp L S) := by
  unfold n_must
  split
  · exact nnext_I hL h.2.1
  · exact h
def n_num (lo hi : Int32) (tp : Row) (L : Nat) (S : MSt) : MSt := n_must (S.so = 2 ∧ p_in S.va lo hi) tp L S
def p_last (c : Nat → Prop) [DecidablePred c] : Nat → Int32
  | 0 => -1
  | n + 1 => if c n then nI n else p_last c n
def n_wof (tp : Row) (base n : Nat) (S : MSt) : Int32 := if S.wr = 0 then p_last (fun k => p_wd tp (base + k) S) n else -1
def n_head (tp : Row) (L : Nat) (S : MSt) : MSt := if n_wof tp 8 4 S < 0 then S else n_must True tp L S
theorem nhead_I {tp : Row} {L : Nat} {S : MSt} (hL : L ≤ 120) (h : SI L S) : SI L (n_head tp L S) := by
  unfold n_head
  split
  · exact h
  · exact nmust_I hL h
def n_aft (i : Nat) (lo oth : Int32) (tp : Row) (L : Nat) (S : MSt) : MSt × Int32 := if S.wr = 0 ∧ p_wd tp i S then (n_num lo 9 tp L (n_must True tp L S), (n_must True tp L S).va) else (S, oth)
theorem naft_I {i : Nat} {lo oth : Int32} {tp : Row} {L : Nat} {S : MSt} (hL : L ≤ 120) (h : SI L S) : SI L (n_aft i lo oth tp L S).1 := by
  unfold n_aft
  split
  · exact nmust_I hL (nmust_I hL h)
  · exact h
def p_item (it : Row) (im : Nat) (q a b c d : Int32) : Row := upd (upd (upd (upd (upd it (5 * im) q) (5 * im + 1) a) (5 * im + 2) b) (5 * im + 3) c) (5 * im + 4) d
abbrev MI : Type := MSt × Int32 × Int32 × Int32 × Int32 × Int32 × Int32
def n_mouse (tp : Row) (L : Nat) (S : MSt) (sn : Int32) : MI := ((n_aft 15 0 (-1) tp L (n_aft 14 1 (-1) tp L (n_head tp L (n_num 0 35 tp L (n_must True tp L S)))).1).1, sn, 10, (n_must True tp L S).va, n_wof tp 8 4 (n_num 0 35 tp L (n_must True tp L S)), (n_aft 14 1 (-1) tp L (n_head tp L (n_num 0 35 tp L (n_must True tp L S)))).2, (n_aft 15 0 (-1) tp L (n_aft 14 1 (-1) tp L (n_head tp L (n_num 0 35 tp L (n_must True tp L S)))).1).2)
def n_lie (what most : Int32) (tp : Row) (L : Nat) (S : MSt) (sn : Int32) : MI := (n_num 0 most tp L (n_num 0 35 tp L (n_must True tp L S)), sn, what, (n_must True tp L S).va, (n_num 0 35 tp L (n_must True tp L S)).va, 0, 0)
def n_owl (tp : Row) (L : Nat) (S : MSt) (sn : Int32) : MI := (n_head tp L (n_num 0 35 tp L (n_must (p_wd tp 18 S) tp L S)), sn, 11, (n_must (p_wd tp 18 S) tp L S).va, n_wof tp 8 4 (n_num 0 35 tp L (n_must (p_wd tp 18 S) tp L S)), 0, 0)
def n_strike (kind : Int32) (tp : Row) (L : Nat) (S : MSt) (sn : Int32) : MI := ((n_aft 12 0 0 tp L (n_num 0 35 tp L (n_must (sn < 8) tp L S))).1, sn + 1, kind, (n_must (sn < 8) tp L S).va, (n_aft 12 0 0 tp L (n_num 0 35 tp L (n_must (sn < 8) tp L S))).2, 0, 0)
theorem nmouse_1 {tp : Row} {L : Nat} {S : MSt} {sn : Int32} : (n_mouse tp L S sn).1 = (n_aft 15 0 (-1) tp L (n_aft 14 1 (-1) tp L (n_head tp L (n_num 0 35 tp L (n_must True tp L S)))).1).1 := by simp only [n_mouse]
theorem nlie_1 {what most : Int32} {tp : Row} {L : Nat} {S : MSt} {sn : Int32} : (n_lie what most tp L S sn).1 = n_num 0 most tp L (n_num 0 35 tp L (n_must True tp L S)) := by simp only [n_lie]
theorem nowl_1 {tp : Row} {L : Nat} {S : MSt} {sn : Int32} : (n_owl tp L S sn).1 = n_head tp L (n_num 0 35 tp L (n_must (p_wd tp 18 S) tp L S)) := by simp only [n_owl]
theorem nstrike_1 {kind : Int32} {tp : Row} {L : Nat} {S : MSt} {sn : Int32} : (n_strike kind tp L S sn).1 = (n_aft 12 0 0 tp L (n_num 0 35 tp L (n_must (sn < 8) tp L S))).1 := by simp only [n_strike]
def n_item (tp : Row) (L : Nat) (S : MSt) (sn : Int32) : MI :=
  if n_wof tp 1 7 S < 0 then (if p_wd tp 13 S then n_mouse tp L S sn else if p_wd tp 16 S then n_lie 12 30 tp L S sn else if p_wd tp 17 S then n_lie 13 99 tp L S sn else n_owl tp L S sn) else n_strike (n_wof tp 1 7 S) tp L S sn
theorem nmouse_I {tp : Row} {L : Nat} {S : MSt} {sn : Int32} (hL : L ≤ 120) (h : SI L S) : SI L (n_mouse tp L S sn).1 := by
  rw [nmouse_1]
  exact naft_I hL (naft_I hL (nhead_I hL (nmust_I hL (nmust_I hL h))))
theorem nlie_I {what most : Int32} {tp : Row} {L : Nat} {S : MSt} {sn : Int32} (hL : L ≤ 120) (h : SI L S) : SI L (n_lie what most tp L S sn).1 := by
  rw [nlie_1]
  exact nmust_I hL (nmust_I hL (nmust_I hL h))
theorem nowl_I {tp : Row} {L : Nat} {S : MSt} {sn : Int32} (hL : L ≤ 120) (h : SI L S) : SI L (n_owl tp L S sn).1 := by
  rw [nowl_1]
  exact nhead_I hL (nmust_I hL (nmust_I hL h))
theorem nstrike_I {kind : Int32} {tp : Row} {L : Nat} {S : MSt} {sn : Int32} (hL : L ≤ 120) (h : SI L S) : SI L (n_strike kind tp L S sn).1 := by
  rw [nstrike_1]
  exact naft_I hL (nmust_I hL (nmust_I hL h))
theorem nitem_I {tp : Row} {L : Nat} {S : MSt} {sn : Int32} (hL : L ≤ 120) (h : SI L S) : SI L (n_item tp L S sn).1 := by
  unfold n_item
  split
  · split
    · exact nmouse_I hL h
    · split
      · exact nlie_I hL h
      · split
        · exact nlie_I hL h
        · exact nowl_I hL h
  · exact nstrike_I hL h
theorem sub_nI {a b n : Nat} (hb : b ≤ a) (ha : a ≤ 120) (hn : n < 1000) : nI a - nI b = nI n ↔ a = b + n := by
  obtain ⟨x, rfl⟩ : ∃ x, a = b + x := ⟨a - b, by omega⟩
  have e : nI (b + x) - nI b = nI x := by
    rw [← nI_add, Int32.add_comm, Int32.add_sub_cancel]
  rw [e]
  constructor
  · intro h
    have := (nI_eq (by omega) (by omega)).mp h
    omega
  · intro h
    have : x = n := by omega
    rw [this]
def p_itm (it : Row) (im : Nat) (r : MI) : Row := p_item it im r.2.2.1 r.2.2.2.1 r.2.2.2.2.1 r.2.2.2.2.2.1 r.2.2.2.2.2.2
def p_tel (w : Row) (q : Nat) (v : Int32) : Row := upd w q (if v < 0 then w q else v)
def p_tell (it : Row) (n : Nat) (w : Row) : Row :=
  if it n = 10 then upd (upd (p_tel (p_tel (p_tel w 4 (it (n + 2))) 5 (it (n + 3))) 6 (it (n + 4))) 7 0) 3 (it (n + 1))
  else if it n = 11 then upd (p_tel w 9 (it (n + 2))) 8 (it (n + 1))
  else if it n = 12 then upd w (20 + ix (it (n + 1))) (it (n + 2))
  else if it n = 13 then upd w (56 + ix (it (n + 1))) (it (n + 2))
  else p_comes w (it n) (it (n + 1)) (it (n + 2))
def p_old (it : Row) (n : Nat) (w : Row) : Int32 :=
  if it n = 10 then w 3 else if it n = 11 then w 8 else if it n = 12 then w (20 + ix (it (n + 1))) else if it n = 13 then w (56 + ix (it (n + 1))) else w 1
def OKit (it : Row) (n : Nat) (w : Row) : Prop := (it n = 12 ∨ it n = 13 → vp_in (it (n + 1)) 36) ∧ (¬ it n = 10 → ¬ it n = 11 → ¬ it n = 12 → ¬ it n = 13 → vp_in (w 1) 8)
