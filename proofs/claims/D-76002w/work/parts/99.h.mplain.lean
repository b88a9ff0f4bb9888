theorem ntok_wr {tp : Row} {L i : Nat} {wr : Int32} : (n_tok tp L i wr).wr = wr := by
  unfold n_tok
  repeat' split
  all_goals rfl
theorem ntok_bg {tp : Row} {L i : Nat} {wr : Int32} : (n_tok tp L i wr).bg = i := by
  unfold n_tok
  repeat' split
  all_goals rfl
theorem nnext_wr {tp : Row} {L : Nat} {S : MSt} : (n_next tp L S).wr = S.wr := ntok_wr
theorem nnext_bg {tp : Row} {L : Nat} {S : MSt} : S.en ≤ (n_next tp L S).bg := by
  unfold n_next
  rw [ntok_bg]
  exact blk_M _ _
theorem nmust_0 {P : Prop} [Decidable P] {tp : Row} {L : Nat} {S : MSt} (h : (n_must P tp L S).wr = 0) : S.wr = 0 ∧ P := by
  unfold n_must at h
  split at h
  · assumption
  · exact absurd (show (1 : Int32) = 0 from h) (by decide)
theorem nmust_p {P : Prop} [Decidable P] {tp : Row} {L : Nat} {S : MSt} (h0 : S.wr = 0) (h : P) : n_must P tp L S = n_next tp L S := if_pos ⟨h0, h⟩
theorem nmust_n {P : Prop} [Decidable P] {tp : Row} {L : Nat} {S : MSt} (h : ¬ (S.wr = 0 ∧ P)) : n_must P tp L S = (S.bg, S.en, S.so, S.va, 1) := if_neg h
theorem nmust_A {P : Prop} [Decidable P] {tp : Row} {L : Nat} {S : MSt} (h : (n_must P tp L S).wr = 0) : S.en ≤ (n_must P tp L S).bg := by
  rw [nmust_p (nmust_0 h).1 (nmust_0 h).2]
  exact nnext_bg
theorem nmust_B {P : Prop} [Decidable P] {tp : Row} {L : Nat} {S : MSt} (h : SI L S) : S.bg ≤ (n_must P tp L S).bg := by
  unfold n_must
  split
  · exact Nat.le_trans h.1 nnext_bg
  · exact Nat.le_refl _
theorem nhead_0 {tp : Row} {L : Nat} {S : MSt} (h : (n_head tp L S).wr = 0) : S.wr = 0 := by
  unfold n_head at h
  split at h
  · exact h
  · exact (nmust_0 h).1
theorem nhead_B {tp : Row} {L : Nat} {S : MSt} (h : SI L S) : S.bg ≤ (n_head tp L S).bg := by
  unfold n_head
  split
  · exact Nat.le_refl _
  · exact nmust_B h
theorem naft_0 {i : Nat} {lo oth : Int32} {tp : Row} {L : Nat} {S : MSt} (h : (n_aft i lo oth tp L S).1.wr = 0) : S.wr = 0 := by
  unfold n_aft at h
  split at h
  · exact (nmust_0 (nmust_0 h).1).1
  · exact h
theorem naft_B {i : Nat} {lo oth : Int32} {tp : Row} {L : Nat} {S : MSt} (hL : L ≤ 120) (h : SI L S) : S.bg ≤ (n_aft i lo oth tp L S).1.bg := by
  unfold n_aft
  split
  · exact Nat.le_trans (nmust_B h) (nmust_B (nmust_I hL h))
  · exact Nat.le_refl _
theorem last_some {c : Nat → Prop} [DecidablePred c] : ∀ n, ¬ p_last c n < 0 → ∃ k, k < n ∧ c k
  | 0, h => absurd (show (-1 : Int32) < 0 by decide) h
  | n + 1, h => by
    by_cases q : c n
    · exact ⟨n, Nat.lt_succ_self n, q⟩
    · have e : p_last c (n + 1) = p_last c n := if_neg q
      rw [e] at h
      obtain ⟨k, hk, hc⟩ := last_some n h
      exact ⟨k, by omega, hc⟩
theorem wof_some {tp : Row} {base n : Nat} {S : MSt} (h : ¬ n_wof tp base n S < 0) : S.wr = 0 ∧ ∃ k, k < n ∧ p_wd tp (base + k) S := by
  unfold n_wof at h
  split at h
  · rename_i q
    exact ⟨q, last_some (c := fun k => p_wd tp (base + k) S) n h⟩
  · exact absurd (show (-1 : Int32) < 0 by decide) h
theorem nmouse_A {tp : Row} {L : Nat} {S : MSt} {sn : Int32} (hL : L ≤ 120) (h : SI L S) (h0 : (n_mouse tp L S sn).1.wr = 0) : S.en ≤ (n_mouse tp L S sn).1.bg := by
  rw [nmouse_1] at h0 ⊢
  have i1 : SI L (n_must True tp L S) := nmust_I hL h
  have a1 : (n_must True tp L S).wr = 0 → S.en ≤ (n_must True tp L S).bg := fun z => nmust_A z
  generalize n_must True tp L S = S1 at h0 i1 a1 ⊢
  have i2 : SI L (n_num 0 35 tp L S1) := nmust_I hL i1
  have b2 : S1.bg ≤ (n_num 0 35 tp L S1).bg := nmust_B i1
  have z2 : (n_num 0 35 tp L S1).wr = 0 → S1.wr = 0 := fun z => (nmust_0 z).1
  generalize n_num 0 35 tp L S1 = S2 at h0 i2 b2 z2 ⊢
  have i3 : SI L (n_head tp L S2) := nhead_I hL i2
  have b3 : S2.bg ≤ (n_head tp L S2).bg := nhead_B i2
  have z3 : (n_head tp L S2).wr = 0 → S2.wr = 0 := fun z => nhead_0 z
  generalize n_head tp L S2 = S3 at h0 i3 b3 z3 ⊢
  have i4 : SI L (n_aft 14 1 (-1) tp L S3).1 := naft_I hL i3
  have b4 : S3.bg ≤ (n_aft 14 1 (-1) tp L S3).1.bg := naft_B hL i3
  have z4 : (n_aft 14 1 (-1) tp L S3).1.wr = 0 → S3.wr = 0 := fun z => naft_0 z
  generalize (n_aft 14 1 (-1) tp L S3).1 = S4 at h0 i4 b4 z4 ⊢
  have b5 : S4.bg ≤ (n_aft 15 0 (-1) tp L S4).1.bg := naft_B hL i4
  have z5 : S4.wr = 0 := naft_0 h0
  exact Nat.le_trans (a1 (z2 (z3 (z4 z5)))) (Nat.le_trans b2 (Nat.le_trans b3 (Nat.le_trans b4 b5)))
theorem nlie_A {what most : Int32} {tp : Row} {L : Nat} {S : MSt} {sn : Int32} (hL : L ≤ 120) (h : SI L S) (h0 : (n_lie what most tp L S sn).1.wr = 0) : S.en ≤ (n_lie what most tp L S sn).1.bg := by
  rw [nlie_1] at h0 ⊢
  have i1 : SI L (n_must True tp L S) := nmust_I hL h
  have i2 : SI L (n_num 0 35 tp L (n_must True tp L S)) := nmust_I hL i1
  have z1 := (nmust_0 (nmust_0 h0).1).1
  exact Nat.le_trans (nmust_A z1) (Nat.le_trans (nmust_B i1) (nmust_B i2))
theorem nowl_A {tp : Row} {L : Nat} {S : MSt} {sn : Int32} (hL : L ≤ 120) (h : SI L S) (h0 : (n_owl tp L S sn).1.wr = 0) : S.so = 1 ∧ S.en ≤ (n_owl tp L S sn).1.bg := by
  rw [nowl_1] at h0 ⊢
  have i1 : SI L (n_must (p_wd tp 18 S) tp L S) := nmust_I hL h
  have i2 : SI L (n_num 0 35 tp L (n_must (p_wd tp 18 S) tp L S)) := nmust_I hL i1
  have z1 := (nmust_0 (nhead_0 h0)).1
  exact ⟨(nmust_0 z1).2.1, Nat.le_trans (nmust_A z1) (Nat.le_trans (nmust_B i1) (nhead_B i2))⟩
theorem nstrike_A {kind : Int32} {tp : Row} {L : Nat} {S : MSt} {sn : Int32} (hL : L ≤ 120) (h : SI L S) (h0 : (n_strike kind tp L S sn).1.wr = 0) : S.en ≤ (n_strike kind tp L S sn).1.bg := by
  rw [nstrike_1] at h0 ⊢
  have i1 : SI L (n_must (sn < 8) tp L S) := nmust_I hL h
  have i2 : SI L (n_num 0 35 tp L (n_must (sn < 8) tp L S)) := nmust_I hL i1
  have z1 := (nmust_0 (naft_0 h0)).1
  exact Nat.le_trans (nmust_A z1) (Nat.le_trans (nmust_B i1) (naft_B hL i2))
theorem nitem_A {tp : Row} {L : Nat} {S : MSt} {sn : Int32} (hL : L ≤ 120) (h : SI L S) (h0 : (n_item tp L S sn).1.wr = 0) : S.so = 1 ∧ S.en ≤ (n_item tp L S sn).1.bg := by
  unfold n_item at h0 ⊢
  split at h0
  · rename_i c1
    rw [if_pos c1]
    split at h0
    · rename_i c2
      rw [if_pos c2]
      exact ⟨c2.1, nmouse_A hL h h0⟩
    · rename_i c2
      rw [if_neg c2]
      split at h0
      · rename_i c3
        rw [if_pos c3]
        exact ⟨c3.1, nlie_A hL h h0⟩
      · rename_i c3
        rw [if_neg c3]
        split at h0
        · rename_i c4
          rw [if_pos c4]
          exact ⟨c4.1, nlie_A hL h h0⟩
        · rename_i c4
          rw [if_neg c4]
          exact nowl_A hL h h0
  · rename_i c1
    rw [if_neg c1]
    obtain ⟨-, k, -, hk⟩ := wof_some c1
    exact ⟨hk.1, nstrike_A hL h h0⟩
def n_loop (tp : Row) (L : Nat) : Nat → MSt → Int32 → Row → Nat → MSt × Int32 × Row × Nat
  | 0, S, sn, it, im => (S, sn, it, im)
  | f + 1, S, sn, it, im => if S.wr = 0 ∧ S.so = 3 ∧ mt tp S.bg = 59 then n_loop tp L f (n_item tp L (n_must True tp L S) sn).1 (n_item tp L (n_must True tp L S) sn).2.1 (p_itm it im (n_item tp L (n_must True tp L S) sn)) (im + 1) else (S, sn, it, im)
theorem nloop_t {tp it : Row} {L f im : Nat} {S : MSt} {sn : Int32} (h : S.wr = 0 ∧ S.so = 3 ∧ mt tp S.bg = 59) : n_loop tp L (f + 1) S sn it im = n_loop tp L f (n_item tp L (n_must True tp L S) sn).1 (n_item tp L (n_must True tp L S) sn).2.1 (p_itm it im (n_item tp L (n_must True tp L S) sn)) (im + 1) := if_pos h
theorem nloop_f {tp it : Row} {L f im : Nat} {S : MSt} {sn : Int32} (h : ¬ (S.wr = 0 ∧ S.so = 3 ∧ mt tp S.bg = 59)) : n_loop tp L f S sn it im = (S, sn, it, im) := by
  cases f
  · rfl
  · exact if_neg h
def n_start (tp : Row) (L : Nat) : MSt := n_next tp L ⟨0, 0, 0, 0, 0⟩
def n_read (tp : Row) (L : Nat) (sn : Int32) (it : Row) : MSt × Int32 × Row × Nat := n_loop tp L 121 (n_item tp L (n_start tp L) sn).1 (n_item tp L (n_start tp L) sn).2.1 (p_itm it 0 (n_item tp L (n_start tp L) sn)) 1
def n_fin (tp : Row) (L : Nat) (S : MSt) : MSt := n_must (S.so = 0) tp L S
theorem nround {tp : Row} {L : Nat} {S : MSt} {sn : Int32} (hL : L ≤ 120) (h : SI L S) (h0 : S.wr = 0) (hw : (n_item tp L (n_must True tp L S) sn).1.wr = 0) : S.en < (n_item tp L (n_must True tp L S) sn).1.bg := by
  have i1 : SI L (n_must True tp L S) := nmust_I hL h
  obtain ⟨a1, a2⟩ := nitem_A hL i1 hw
  have e : n_must True tp L S = n_next tp L S := nmust_p h0 trivial
  have b1 : S.en ≤ (n_must True tp L S).bg := by rw [e]; exact nnext_bg
  rcases i1.2.2 with q | q
  · rw [q] at a1
    exact absurd a1 (by decide)
  · omega
theorem nstart_I {tp : Row} {L : Nat} (hL : L ≤ 120) : SI L (n_start tp L) := nnext_I hL (Nat.zero_le _)
theorem nfirst {tp : Row} {L : Nat} {sn : Int32} (hL : L ≤ 120) (hw : (n_item tp L (n_start tp L) sn).1.wr = 0) : 1 ≤ (n_item tp L (n_start tp L) sn).1.bg := by
  have i1 := nstart_I (tp := tp) hL
  obtain ⟨a1, a2⟩ := nitem_A hL i1 hw
  rcases i1.2.2 with q | q
  · rw [q] at a1
    exact absurd a1 (by decide)
  · omega
def p_tells (it : Row) : Nat → Row → Row
  | 0, w => w
  | k + 1, w => p_tell it (5 * k) (p_tells it k w)
theorem old_nn {it : Row} {n : Nat} {w : Row} (h : WF w) (ho : OKit it n w) : ¬ p_old it n w < 0 := by
  unfold p_old
  split
  · exact vin_nn h.mouse
  · split
    · exact vin_nn h.owl
    · split
      · rename_i q
        exact h.snow _ (vin_lt (ho.1 (Or.inl q)))
      · split
        · rename_i q
          exact h.noise _ (vin_lt (ho.1 (Or.inr q)))
        · exact vin_nn h.many
theorem md_ex {sc : Row} {L : Nat} (h : sc 3 = nI L) : ∃ b e im, sc = md sc L ⟨b, e, sc 6, sc 7, sc 8⟩ im (sc 10) := by
  obtain ⟨b, eb⟩ := nI_sur (sc 4)
  obtain ⟨e, ee⟩ := nI_sur (sc 5)
  obtain ⟨im, ei⟩ := nI_sur (sc 9)
  refine ⟨b, e, im, ?_⟩
  funext j
  match j with
  | 0 => rfl
  | 1 => rfl
  | 2 => rfl
  | 3 => exact h
  | 4 => exact eb.symm
  | 5 => exact ee.symm
  | 6 => rfl
  | 7 => rfl
  | 8 => rfl
  | 9 => exact ei.symm
  | 10 => rfl
  | _ + 11 => rfl
