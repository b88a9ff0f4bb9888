def wx (j : Nat) : Nat := [1, 2, 3, 4, 5, 6, 7, 13, 18, 16, 17, 8, 9, 10, 11, 12, 14, 15].getD j 0
theorem wx_len : ∀ k, k < 18 → slen.getD (wx k) 0 ≤ 7 ∧ (slen.getD (wx k) 0 = 7 ∨ p_chr 0 (7 * k + slen.getD (wx k) 0) = 32) := by decide +kernel
theorem wx_chr : ∀ k, k < 18 → ∀ j, j < slen.getD (wx k) 0 → p_chr 0 (7 * k + j) = p_chr (wx k) j ∧ ¬ p_chr 0 (7 * k + j) = 32 := by decide +kernel
theorem wx_one : ∀ k, k < 18 → ∀ j, j < 18 → slen.getD (wx k) 0 = slen.getD (wx j) 0 → (∀ i, i < slen.getD (wx k) 0 → p_chr (wx k) i = p_chr (wx j) i) → k = j := by decide +kernel
theorem wx_sur : ∀ i, i < 19 → ¬ i = 0 → ∃ j, j < 18 ∧ wx j = i := by decide +kernel
theorem let_all {tp : Row} {L : Nat} : ∀ f i j, i + j < p_let tp L f i → isLt (p_byte tp L (i + j))
  | 0, i, j, h => absurd (show i + j < i from h) (by omega)
  | f + 1, i, j, h => by
    by_cases c : isLt (p_byte tp L i)
    · rw [let_t c] at h
      cases j with
      | zero => exact c
      | succ j =>
        have := let_all f (i + 1) j (by rw [show i + 1 + j = i + (j + 1) by omega]; exact h)
        rw [show i + 1 + j = i + (j + 1) by omega] at this
        exact this
    · rw [let_f c] at h
      exact absurd h (by omega)
theorem lt_ne32 {x : Int32} (h : isLt x) : ¬ x = 32 := by
  intro z
  rw [z] at h
  exact h.1 (by decide)
theorem mt_byte {tp : Row} {L k : Nat} (h : k < L) : mt tp k = p_byte tp L k := (if_pos h).symm
theorem key_wd {tp : Row} {L i e k : Nat} {va wr : Int32} (hk : k < 18) (he : i ≤ e) (heL : e ≤ L) (hl : ∀ j, i + j < e → isLt (p_byte tp L (i + j))) : p_key tp L i k (e - i) ↔ p_wd tp (wx k) ⟨i, e, 1, va, wr⟩ := by
  obtain ⟨n, rfl⟩ : ∃ n, e = i + n := ⟨e - i, by omega⟩
  rw [show i + n - i = n by omega]
  obtain ⟨f1, f2⟩ := wx_len k hk
  have f3 := wx_chr k hk
  constructor
  · intro h
    have hn : n = slen.getD (wx k) 0 := by
      rcases Nat.lt_trichotomy n (slen.getD (wx k) 0) with q | q | q
      · rcases h.2.1 with z | z
        · omega
        · exact absurd z (f3 n q).2
      · exact q
      · rcases f2 with z | z
        · have := h.1; omega
        · have := h.2.2 _ q
          rw [z] at this
          exact absurd this.symm (lt_ne32 (hl _ (by omega)))
    refine ⟨rfl, by rw [hn], fun j hj => ?_⟩
    show mt tp (i + j) = _
    rw [mt_byte (L := L) (by omega), ← h.2.2 j (by omega), (f3 j hj).1]
  · intro h
    have hn : i + n = i + slen.getD (wx k) 0 := h.2.1
    have hn' : n = slen.getD (wx k) 0 := by omega
    refine ⟨by omega, ?_, fun j hj => ?_⟩
    · rw [hn']
      exact f2
    · have h3 : mt tp (i + j) = p_chr (wx k) j := h.2.2 j (by omega)
      rw [mt_byte (L := L) (by omega)] at h3
      rw [h3, (f3 j (by omega)).1]
theorem fk_some {tp : Row} {L b n : Nat} : ∀ f k, p_fk tp L b n f k < k + f → p_key tp L b (p_fk tp L b n f k) n
  | 0, k, h => absurd (show k < k + 0 from h) (by omega)
  | f + 1, k, h => by
    by_cases c : p_key tp L b k n
    · rw [fk_t c]
      exact c
    · rw [fk_f c] at h ⊢
      exact fk_some f (k + 1) (by omega)
theorem fk_none {tp : Row} {L b n : Nat} : ∀ f k, ¬ p_fk tp L b n f k < k + f → ∀ j, k ≤ j → j < k + f → ¬ p_key tp L b j n
  | 0, k, _, j, h1, h2 => absurd h2 (by omega)
  | f + 1, k, h, j, h1, h2 => by
    by_cases c : p_key tp L b k n
    · rw [fk_t c] at h
      exact absurd h (by omega)
    · rw [fk_f c] at h
      by_cases e : j = k
      · rw [e]
        exact c
      · exact fk_none f (k + 1) (by omega) j (by omega) (by omega)
theorem wd_one {tp : Row} {S : MSt} {k j : Nat} (hk : k < 18) (hj : j < 18) (h1 : p_wd tp (wx k) S) (h2 : p_wd tp (wx j) S) : k = j := by
  have e : slen.getD (wx k) 0 = slen.getD (wx j) 0 := by
    have := h1.2.1
    have := h2.2.1
    omega
  exact wx_one k hk j hj e (fun i hi => (h1.2.2 i hi).symm.trans (h2.2.2 i (by omega)))
theorem dg_nat {x : Int32} (h : isDg x) : ∃ b, 48 ≤ b ∧ b ≤ 57 ∧ x = nI b := by
  have h0 : p_in x 0 57 := ⟨in_nn h (by decide), h.2⟩
  obtain ⟨b, hb, e⟩ := vp_in_of (vin_of h0 58 (by decide)) (by decide)
  refine ⟨b, ?_, by omega, e⟩
  have h1 := h.1
  rw [e] at h1
  rcases Nat.lt_or_ge b 48 with q | q
  · exact absurd ((lt_nI (a := b) (b := 48) (by omega) (by decide)).mpr q) h1
  · exact q
theorem ten_nat {a b : Nat} (hb : 48 ≤ b) : 10 * nI a + nI b - 48 = nI (10 * a + (b - 48)) := by
  rw [show (10 : Int32) = nI 10 from rfl, nI_mul, nI_add, show 10 * a + b = 10 * a + (b - 48) + 48 by omega, ← nI_add (10 * a + (b - 48)) 48]
  exact Int32.add_sub_cancel _ _
theorem lt_big {a b : Nat} (ha : a < 100000) (hb : b < 100000) : nI a < nI b ↔ a < b := by
  constructor
  · intro h
    rcases Nat.lt_or_ge a b with q | q
    · exact q
    · exact absurd h (nI_nlt (a := a) (b := b) (by omega) (by omega))
  · intro h
    exact nI_lt (a := a) (b := b) (by omega) (by omega)
def DR (v m : Int32) : Prop := (∃ a, a ≤ 999 ∧ v = nI a ∧ m = nI a) ∨ (999 < v ∧ m = 1000)
theorem mn_nat {a : Nat} (h : a < 100000) : mn 1000 (nI a) = if a ≤ 999 then nI a else 1000 := by
  show (if nI a < nI 1000 then nI a else nI 1000) = _
  by_cases c : a ≤ 999
  · rw [if_pos c, if_pos ((lt_big (by omega) (by decide)).mpr (by omega))]
  · rw [if_neg c, if_neg (fun z => c (by have := (lt_big (a := a) (b := 1000) (by omega) (by decide)).mp z; omega))]
    rfl
theorem dig_dgm {tp : Row} {L : Nat} : ∀ f k v m, DR v m → (p_dgm tp L f k m).1 = (p_dig tp L f k v).1 ∧ DR (p_dig tp L f k v).2 (p_dgm tp L f k m).2
  | 0, k, v, m, h => ⟨rfl, h⟩
  | f + 1, k, v, m, h => by
    by_cases c : isDg (p_byte tp L k)
    · rw [dig_t c, dgm_t c]
      refine dig_dgm f (k + 1) _ _ ?_
      obtain ⟨b, h1, h2, e⟩ := dg_nat c
      rw [e]
      rcases h with ⟨a, ha, rfl, rfl⟩ | ⟨hv, rfl⟩
      · rw [if_neg (show ¬ (999 : Int32) < nI a from fun z => absurd ((lt_big (a := 999) (b := a) (by decide) (by omega)).mp z) (by omega)), ten_nat h1, mn_nat (by omega)]
        by_cases q : 10 * a + (b - 48) ≤ 999
        · rw [if_pos q]
          exact Or.inl ⟨_, q, rfl, rfl⟩
        · rw [if_neg q]
          exact Or.inr ⟨(lt_big (a := 999) (by decide) (by omega)).mpr (by omega), rfl⟩
      · rw [if_pos hv, show (1000 : Int32) = nI 1000 from rfl, ten_nat h1]
        refine Or.inr ⟨hv, ?_⟩
        rw [show nI 1000 = (1000 : Int32) from rfl, mn_nat (by omega), if_neg (by omega)]
    · rw [dig_f c, dgm_f c]
      exact ⟨rfl, h⟩
def TR (tp : Row) (a b : Nat) (t v : Int32) (S : MSt) : Prop := S.bg = b ∧ S.en = a ∧ S.wr = 0 ∧ ((t = 0 ∧ S.so = 0) ∨ (t = 1 ∧ S.so = 2 ∧ S.va = v) ∨ (t = 2 ∧ S.so = 1 ∧ vp_in v 18 ∧ ∀ j, j < 18 → (p_wd tp (wx j) S ↔ v = nI j)) ∨ (t = 3 ∧ S.so = 3 ∧ mt tp S.bg = 59))
theorem TR.hb {tp : Row} {a b : Nat} {t v : Int32} {S : MSt} (h : TR tp a b t v S) : S.bg = b := h.1
theorem TR.he {tp : Row} {a b : Nat} {t v : Int32} {S : MSt} (h : TR tp a b t v S) : S.en = a := h.2.1
theorem TR.hw {tp : Row} {a b : Nat} {t v : Int32} {S : MSt} (h : TR tp a b t v S) : S.wr = 0 := h.2.2.1
theorem TR.hk {tp : Row} {a b : Nat} {t v : Int32} {S : MSt} (h : TR tp a b t v S) : (t = 0 ∧ S.so = 0) ∨ (t = 1 ∧ S.so = 2 ∧ S.va = v) ∨ (t = 2 ∧ S.so = 1 ∧ vp_in v 18 ∧ ∀ j, j < 18 → (p_wd tp (wx j) S ↔ v = nI j)) ∨ (t = 3 ∧ S.so = 3 ∧ mt tp S.bg = 59) := h.2.2.2
def Bad (tp : Row) (S : MSt) : Prop := (∀ i, i < 19 → ¬ i = 0 → ¬ p_wd tp i S) ∧ ¬ S.so = 0 ∧ (S.so = 2 → S.va = 1000) ∧ (S.so = 3 → ¬ mt tp S.bg = 59)
theorem tok_R {tp : Row} {L i : Nat} {t v : Int32} (hi : i ≤ L) (h : (p_tok tp L i t v).2.2.2 = true) : TR tp (p_tok tp L i t v).1 i (p_tok tp L i t v).2.1 (p_tok tp L i t v).2.2.1 (n_tok tp L i 0) := by
  unfold p_tok at h ⊢
  unfold n_tok
  split
  · rename_i c
    exact ⟨rfl, rfl, rfl, Or.inl ⟨rfl, rfl⟩⟩
  · rename_i c
    rw [if_neg c] at h
    have hiL := byte_in c
    split
    · rename_i cl
      rw [if_pos cl] at h
      split
      · rename_i cf
        refine ⟨rfl, rfl, rfl, Or.inr (Or.inr (Or.inl ⟨rfl, rfl, vp_in_nI cf (by decide), fun j hj => ?_⟩))⟩
        have hk := fk_some 18 0 (by omega : p_fk tp L i (p_let tp L (121 - i) i - i) 18 0 < 0 + 18)
        have hw := (key_wd (va := 0) (wr := 0) cf (let_M _ _) (let_L _ _ hi) (fun j h => let_all _ _ _ h)).mp hk
        constructor
        · intro z
          rw [wd_one cf hj hw z]
        · intro z
          have := (nI_eq (by omega) (by omega)).mp z
          rw [← this]
          exact hw
      · rename_i cf
        rw [if_neg cf] at h
        exact absurd (show false = true from h) (by decide)
    · rename_i cl
      rw [if_neg cl] at h
      split
      · rename_i cd
        rw [if_pos cd] at h
        have hd := dig_dgm (tp := tp) (L := L) (121 - i) i 0 0 (Or.inl ⟨0, by decide, rfl, rfl⟩)
        split
        · rename_i q
          rw [if_pos q] at h
          exact absurd (show false = true from h) (by decide)
        · rename_i q
          refine ⟨rfl, hd.1, rfl, Or.inr (Or.inl ⟨rfl, rfl, ?_⟩)⟩
          rcases hd.2 with ⟨a, _, e1, e2⟩ | ⟨z, _⟩
          · exact e2.trans e1.symm
          · exact absurd z q
      · rename_i cd
        rw [if_neg cd] at h
        split
        · rename_i cs
          exact ⟨rfl, rfl, rfl, Or.inr (Or.inr (Or.inr ⟨rfl, rfl, (mt_byte hiL).trans cs⟩))⟩
        · rename_i cs
          rw [if_neg cs] at h
          exact absurd (show false = true from h) (by decide)
theorem wd_so {tp : Row} {i : Nat} {S : MSt} (h : ¬ S.so = 1) : ¬ p_wd tp i S := fun z => h z.1
theorem tok_B {tp : Row} {L i : Nat} {t v : Int32} (hi : i ≤ L) (h : (p_tok tp L i t v).2.2.2 = false) : Bad tp (n_tok tp L i 0) := by
  unfold p_tok at h
  unfold n_tok
  split at h
  · exact absurd (show true = false from h) (by decide)
  · rename_i c
    rw [if_neg c]
    have hiL := byte_in c
    split at h
    · rename_i cl
      rw [if_pos cl]
      split at h
      · exact absurd (show true = false from h) (by decide)
      · rename_i cf
        refine ⟨fun w hw h0 => ?_, by show ¬ (1 : Int32) = 0; decide, fun z => absurd (show (1 : Int32) = 2 from z) (by decide), fun z => absurd (show (1 : Int32) = 3 from z) (by decide)⟩
        obtain ⟨j, hj, e⟩ := wx_sur w hw h0
        rw [← e]
        intro z
        exact fk_none 18 0 (by omega) j (by omega) (by omega) ((key_wd hj (let_M _ _) (let_L _ _ hi) (fun j h => let_all _ _ _ h)).mpr z)
    · rename_i cl
      rw [if_neg cl]
      split at h
      · rename_i cd
        rw [if_pos cd]
        have hd := dig_dgm (tp := tp) (L := L) (121 - i) i 0 0 (Or.inl ⟨0, by decide, rfl, rfl⟩)
        split at h
        · rename_i q
          refine ⟨fun w hw h0 => wd_so (by show ¬ (2 : Int32) = 1; decide), by show ¬ (2 : Int32) = 0; decide, fun _ => ?_, fun z => absurd (show (2 : Int32) = 3 from z) (by decide)⟩
          rcases hd.2 with ⟨a, ha, e1, e2⟩ | ⟨_, z⟩
          · rw [e1] at q
            exact absurd ((lt_big (a := 999) (b := a) (by decide) (by omega)).mp q) (by omega)
          · exact z
        · exact absurd (show true = false from h) (by decide)
      · rename_i cd
        rw [if_neg cd]
        split at h
        · exact absurd (show true = false from h) (by decide)
        · rename_i cs
          refine ⟨fun w hw h0 => wd_so (by show ¬ (3 : Int32) = 1; decide), by show ¬ (3 : Int32) = 0; decide, fun z => absurd (show (3 : Int32) = 2 from z) (by decide), fun _ z => cs ((mt_byte hiL).symm.trans z)⟩
theorem next_R {tp : Row} {L a a1 b1 : Nat} {t v t1 v1 : Int32} {S : MSt} (ha : a ≤ L) (he : S.en = a) (hw : S.wr = 0) (hq : c_next tp L a t v = ((a1, b1, t1, v1), true)) : TR tp a1 b1 t1 v1 (n_next tp L S) := by
  have h1 : (p_tok tp L (p_blk tp L (121 - a) a) t v).1 = a1 := congrArg (fun z => z.1.1) hq
  have h2 : p_blk tp L (121 - a) a = b1 := congrArg (fun z => z.1.2.1) hq
  have h3 : (p_tok tp L (p_blk tp L (121 - a) a) t v).2.1 = t1 := congrArg (fun z => z.1.2.2.1) hq
  have h4 : (p_tok tp L (p_blk tp L (121 - a) a) t v).2.2.1 = v1 := congrArg (fun z => z.1.2.2.2) hq
  have h5 : (p_tok tp L (p_blk tp L (121 - a) a) t v).2.2.2 = true := congrArg (fun z => z.2) hq
  have h := tok_R (blk_L (121 - a) a ha) h5
  rw [h1, h3, h4, h2] at h
  unfold n_next
  rw [he, hw, h2]
  exact h
theorem next_B {tp : Row} {L a a1 b1 : Nat} {t v t1 v1 : Int32} {S : MSt} (ha : a ≤ L) (he : S.en = a) (hw : S.wr = 0) (hq : c_next tp L a t v = ((a1, b1, t1, v1), false)) : (n_next tp L S).bg = b1 ∧ Bad tp (n_next tp L S) := by
  have h2 : p_blk tp L (121 - a) a = b1 := congrArg (fun z => z.1.2.1) hq
  have h5 : (p_tok tp L (p_blk tp L (121 - a) a) t v).2.2.2 = false := congrArg (fun z => z.2) hq
  have h := tok_B (blk_L (121 - a) a ha) h5
  unfold n_next
  rw [he, hw]
  exact ⟨ntok_bg.trans h2, h⟩
