def LwF (p : Program) (s : State) (m : MethodId) (c : Code) (b L : Nat) (xs : Nat → Int32) : Prop := p.tables.exec = Jvm.exec ∧ c.code = code ∧ c.maxLocals = 4 ∧ s.vm.findClass "OwlEarsLaw" = some m.cls ∧ (∀ w ∈ lw_all, w.before #[Value.ref b] s = true) ∧ va_X b L xs s s.heap ∧ b < s.heap.size
def LwS (G : Gc) (M : Gm) (s : State) : Prop := fX (cF G) s ∧ fX (mF M) s ∧ AB (cF G) s.heap.size ∧ AB (mF M) s.heap.size ∧ DJ (cF G) (mF M) ∧ GW G ∧ ∀ i, i < 4 → G.sw i = 0 → G.sn i = 0
def LwR (G : Gc) (d kp sc sh kp' sc' : Row) : Prop := WF d ∧ GF G sh ∧ vp_in (sc 0) 121 ∧ sc' 3 = sc 0 ∧ sc' 0 = sc 1 ∧ (¬ sc 1 = 0 → kp' = kp ∧ WF kp)
def LwE (G : Gc) (M : Gm) (s : State) (H : Heap) (locs : List Loc) : Prop := ∃ (d kp as un to sc fd tp sh : Row) (sp : Nat → Option Nat) (kp' as' bf' sc' it mv : Row), fC (cF G) (cct G (pg d kp as un to sc fd tp sh) sp) s.heap H locs ∧ fC (mF M) (mct M (mpg d kp' as' bf' sc' fd tp it (swr G) (snr G) sh mv)) s.heap H locs ∧ LwR G d kp sc sh kp' sc'
theorem vin_ik {i L : Nat} (k : Nat) (hi : i + 6 ≤ L) (hL : L ≤ 384) (hk : k < 6) : vp_in (nI i + nI k) L := by
  rw [nI_add]
  exact vp_in_nI (by omega) (by omega)
theorem cmp_self (x : Int64) : lg_cmp x x = 0 := by
  unfold lg_cmp
  simp
theorem ws_of {G : Gc} (hG : GW G) (h0 : ∀ i, i < 4 → G.sw i = 0 → G.sn i = 0) : WS (swr G) (snr G) := by
  intro i hi
  obtain ⟨h1, h2⟩ := hG i hi
  refine ⟨vp_in_nI (by omega) (by decide), fun z => ?_⟩
  have : G.sw i = 0 := (nI_eq (b := 0) (by omega) (by decide)).mp z
  show nI (G.sn i) = 0
  rw [h0 i hi this]
  rfl
theorem lack_in {ws : Row} {s0 : Int32} (h : p_lack ws s0 = 0) : p_in s0 0 3 ∧ ¬ ws (ix s0) = 0 := by
  unfold p_lack at h
  split at h
  · rename_i q
    split at h
    · exact absurd h (by decide)
    · rename_i q2
      exact ⟨q, q2⟩
  · exact absurd h (by decide)
theorem gf_write {G : Gc} {fd sh : Row} {s0 i v : Int32} (hG : GW G) (h : GF G sh) : GF G (s_write fd (swr G) (snr G) sh s0 i v).2.1 := by
  unfold s_write
  split
  · rename_i hl
    obtain ⟨hs, -⟩ := lack_in hl
    have hs4 := pin_ix (N := 4) hs (by decide)
    split
    · rename_i hi
      have hn := (hG _ hs4).2
      intro a ha j hj
      show (G.sw a = 8 → fits .byte (.int (upd sh (40 * ix s0 + ix i) (p_cut v (nI (G.sw (ix s0)))) (40 * a + j))) = true) ∧ (G.sw a = 16 → fits .short (.int (upd sh (40 * ix s0 + ix i) (p_cut v (nI (G.sw (ix s0)))) (40 * a + j))) = true)
      by_cases e : 40 * a + j = 40 * ix s0 + ix i
      · rw [e, upd_s]
        have hi40 : ix i < 40 := by
          have hi2 := hi.2
          rcases Nat.lt_or_ge (ix i) 40 with z | z
          · exact z
          · exfalso
            apply hi2
            have e1 : nI (ix i) = i := nI_ix hi.1
            rw [← e1]
            have hlt : ix i < 2147483648 := ix_lt i
            obtain ⟨k, hk⟩ : ∃ k, G.sn (ix s0) = k := ⟨_, rfl⟩
            show nI (G.sn (ix s0)) - 1 < nI (ix i)
            rw [hk] at hn ⊢
            cases k with
            | zero =>
              have : nI 0 - 1 = (-1 : Int32) := by decide
              rw [this]
              have h0 : ¬ nI (ix i) < 0 := by rw [e1]; exact hi.1
              rw [Int32.lt_iff_toInt_lt] at h0 ⊢
              have e0 : (0 : Int32).toInt = 0 := by decide
              have e2 : (-1 : Int32).toInt = -1 := by decide
              omega
            | succ k =>
              rw [← nI_1, Int32.add_sub_cancel]
              exact nI_lt (by omega) (by omega)
        have ea : a = ix s0 := by
          have := (hG a ha).2
          omega
        rw [ea]
        refine ⟨fun z => ?_, fun z => ?_⟩
        · rw [z]
          exact pk_fb v
        · rw [z]
          exact pk_fs v
      · rw [upd_n e]
        exact h a ha j hj
    · exact h
  · exact h
theorem gf_copy {G : Gc} {fd sh : Row} {s0 f t o n : Int32} (hG : GW G) (h : GF G sh) : GF G (s_copy fd (swr G) (snr G) sh s0 f t o n).2.1 := by
  unfold s_copy
  split
  · rename_i hst
    have hs4 := pin_ix (N := 4) hst.1 (by decide)
    have ht4 := pin_ix (N := 4) hst.2 (by decide)
    split
    · exact h
    · split
      · rename_i hw
        have ew := sw_eq hG hst.1 hst.2 hw
        split
        · rename_i q
          have l1 := len_ok (hG _ hs4).2 q.1 q.2.1 q.2.2.2.1
          have l2 := len_ok (hG _ ht4).2 q.1 q.2.2.1 q.2.2.2.2
          have hn1 := (hG _ hs4).2
          have hn2 := (hG _ ht4).2
          intro a ha j hj
          have hna := (hG a ha).2
          show (G.sw a = 8 → fits .byte (.int (p_mv sh (40 * ix s0 + ix f) (40 * ix t + ix o) (ix n) (40 * a + j))) = true) ∧ (G.sw a = 16 → fits .short (.int (p_mv sh (40 * ix s0 + ix f) (40 * ix t + ix o) (ix n) (40 * a + j))) = true)
          by_cases c : 40 * ix t + ix o ≤ 40 * a + j ∧ 40 * a + j < 40 * ix t + ix o + ix n
          · have e : p_mv sh (40 * ix s0 + ix f) (40 * ix t + ix o) (ix n) (40 * a + j) = sh (40 * ix s0 + ix f + (40 * a + j - (40 * ix t + ix o))) := if_pos c
            have ea : a = ix t := by omega
            rw [e, ea, ew, show 40 * ix s0 + ix f + (40 * ix t + j - (40 * ix t + ix o)) = 40 * ix s0 + (ix f + (j - ix o)) by omega]
            exact h (ix s0) hs4 (ix f + (j - ix o)) (by omega)
          · have e : p_mv sh (40 * ix s0 + ix f) (40 * ix t + ix o) (ix n) (40 * a + j) = sh (40 * a + j) := if_neg c
            rw [e]
            exact h a ha j hj
        · exact h
      · exact h
  · exact h
theorem undo_eq {G : Gc} {d kp sc sh kp' sc' fd : Row} (h : LwR G d kp sc sh kp' sc') : s_undo d fd kp sc = m_undo d fd kp' sc' := by
  unfold s_undo m_undo
  rw [h.2.2.2.2.1]
  by_cases c : sc 1 = 0
  · rw [if_pos c, if_pos c]
  · rw [if_neg c, if_neg c, (h.2.2.2.2.2 c).1]
