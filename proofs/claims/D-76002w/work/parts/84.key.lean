theorem TB.str {adK : Nat → Nat} {U : State} (h : TB adK U) {own tx : String} {k i : Nat} (hw : Cond.stringRef own k tx ∈ lw_tbl) (hi : i < 19) (hs : stm i = .string own k) : vk_R own k tx (adK i) U := by
  obtain ⟨s0, b0, h1, h2, -, h4⟩ := h
  exact vk_R.warm h1 (vk_R.of (h2 _ hw) (hs ▸ h4 i hi))
theorem nI_mul (a b : Nat) : nI a * nI b = nI (a * b) := by
  apply Int32.toBitVec_inj.mp
  rw [Int32.toBitVec_mul]
  show BitVec.ofNat 32 a * BitVec.ofNat 32 b = BitVec.ofNat 32 (a * b)
  rw [BitVec.ofNat_mul]
theorem key_at (a b : Nat) : 7 * nI a + nI b = nI (7 * a + b) := by
  rw [show (7 : Int32) = nI 7 from rfl, nI_mul, nI_add]
abbrev p_key (tp : Row) (L b k n : Nat) : Prop := n ≤ 7 ∧ (n = 7 ∨ p_chr 0 (7 * k + n) = 32) ∧ ∀ i, i < n → p_chr 0 (7 * k + i) = p_byte tp L (b + i)
def p_fk (tp : Row) (L b n : Nat) : Nat → Nat → Nat
  | 0, k => k
  | f + 1, k => if p_key tp L b k n then k else p_fk tp L b n f (k + 1)
theorem fk_t {tp : Row} {L b n f k : Nat} (h : p_key tp L b k n) : p_fk tp L b n (f + 1) k = k := if_pos h
theorem fk_f {tp : Row} {L b n f k : Nat} (h : ¬ p_key tp L b k n) : p_fk tp L b n (f + 1) k = p_fk tp L b n f (k + 1) := if_neg h
theorem let_le {tp : Row} {L : Nat} : ∀ f k, p_let tp L f k ≤ k + f ∧ k ≤ p_let tp L f k
  | 0, k => ⟨Nat.le_refl _, Nat.le_refl _⟩
  | f + 1, k => by
    have := let_le (tp := tp) (L := L) f (k + 1)
    show (if _ then _ else _) ≤ _ ∧ _ ≤ (if _ then _ else _)
    split <;> omega
