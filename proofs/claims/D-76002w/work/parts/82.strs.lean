def p_chr (i k : Nat) : Int32 := (sbyt.getD i []).getD k 0
theorem slen_le : ∀ i, i < 19 → slen.getD i 0 ≤ 126 := by decide +kernel
theorem chr_i2c : ∀ i, i < 19 → ∀ k, k < slen.getD i 0 → ((p_chr i k &&& 255).toUInt32 % 65536).toInt32 = p_chr i k := by decide +kernel
theorem chr_nar : ∀ i, i < 19 → ∀ k, k < slen.getD i 0 → narrow .char (.int (p_chr i k)) = .int (p_chr i k) := by decide +kernel
